/-! STAGE 2z: the reference: tokens. -/
set_option maxRecDepth 100000
/-- the byte at a place; -1 behind the end -/
def byt (f : Int → Int) (n k : Int) : Int := if k < n then f k else -1
def isL (c : Int) : Bool := decide (97 ≤ c ∧ c ≤ 122)
def isD (c : Int) : Bool := decide (48 ≤ c ∧ c ≤ 57)
/-- the first place from k on without p; n without one -/
def endp (p : Int → Bool) (f : Int → Int) (n k : Int) : Int := match fnd (fun i => !p (byt f n i)) k (n - k).toNat with
  | some i => i
  | none => n
def isS (c : Int) : Bool := decide (c = 32 ∨ c = 10)
/-- the number that j digits from b on tell -/
def vlu (f : Int → Int) (b : Int) : Nat → Int
  | 0 => 0
  | j + 1 => if j < 6 then 10 * vlu f b j + f (b + j) - 48 else 1000000
theorem endp_le {p : Int → Bool} {f : Int → Int} {n k : Int} (h : k ≤ n) : k ≤ endp p f n k ∧ endp p f n k ≤ n := by
  unfold endp
  cases e : fnd (fun i => !p (byt f n i)) k (n - k).toNat with
  | none => exact ⟨h, Int.le_refl _⟩
  | some i =>
    obtain ⟨a, c, -⟩ := fnd_some e
    dsimp only
    omega
theorem endp_step {p : Int → Bool} {f : Int → Int} {n k : Int} (h : k < n) : endp p f n k = if p (byt f n k) = true then endp p f n (k + 1) else k := by
  unfold endp
  rw [show (n - k).toNat = (n - (k + 1)).toNat + 1 by omega]
  conv => lhs; unfold fnd
  by_cases g : p (byt f n k) = true
  · simp only [g, Bool.not_true, Bool.false_eq_true, if_false, if_true]
  · simp only [Bool.eq_false_iff.mpr g, Bool.not_false, if_true, Bool.false_eq_true, if_false]
theorem endp_end {p : Int → Bool} {f : Int → Int} {n : Int} : endp p f n n = n := by
  unfold endp
  rw [show (n - n).toNat = 0 by omega]
  rfl
/-- the buffer of the reference is in order -/
def tBf (t : TS) : Prop := (0 ≤ t.1 12 ∧ t.1 12 ≤ 600) ∧ ∀ i, 0 ≤ i → i < t.1 12 → 1 ≤ t.2 9 i ∧ t.2 9 i ≤ 255
theorem byt_in {t : TS} (ht : tBf t) {k : Int} (hk : 0 ≤ k) : -1 ≤ byt (t.2 9) (t.1 12) k ∧ byt (t.2 9) (t.1 12) k ≤ 255 := by
  unfold byt
  by_cases g : k < t.1 12
  · rw [if_pos g]
    have := ht.2 k hk g
    omega
  · rw [if_neg g]; omega
theorem x_byteAt {b : Nat} {t : TS} {h : HP} {k : Int} (ht : tBf t) (hk : 0 ≤ k) (hk2 : k ≤ 1000) : f_X9_byteAt b k (TH b t h) = some (byt (t.2 9) (t.1 12) k, TH b t h) := by
  have h1 := ht.1
  unfold f_X9_byteAt b_X9_byteAt_18 byt
  simp (discharger := omega) only [th_I12, Option.bind_some, iLE_in]
  by_cases g : t.1 12 ≤ k
  · rw [if_pos g, if_neg (by omega)]
  · rw [if_neg g, if_pos (by omega)]
    simp (discharger := omega) only [th_R11, th_A9, Option.bind_some, if_pos]
theorem x_isLetterAt {b : Nat} {t : TS} {h : HP} {k : Int} (ht : tBf t) (hk : 0 ≤ k) (hk2 : k ≤ 1000) : f_X9_isLetterAt b k (TH b t h) = some (bZ (isL (byt (t.2 9) (t.1 12) k)), TH b t h) := by
  have h1 := byt_in ht hk
  unfold f_X9_isLetterAt
  simp only [th_rcv, Option.bind_some]
  rw [x_byteAt ht hk hk2]
  simp only [hb_some]
  rw [x_in (by omega) (by omega) (by omega)]
  simp only [hb_some]
  rw [rtZ_in (bZ_01 _)]
  rfl
theorem x_isDigitAt {b : Nat} {t : TS} {h : HP} {k : Int} (ht : tBf t) (hk : 0 ≤ k) (hk2 : k ≤ 1000) : f_X9_isDigitAt b k (TH b t h) = some (bZ (isD (byt (t.2 9) (t.1 12) k)), TH b t h) := by
  have h1 := byt_in ht hk
  unfold f_X9_isDigitAt
  simp only [th_rcv, Option.bind_some]
  rw [x_byteAt ht hk hk2]
  simp only [hb_some]
  rw [x_in (by omega) (by omega) (by omega)]
  simp only [hb_some]
  rw [rtZ_in (bZ_01 _)]
  rfl
/-- the same but for where the next token is, and what it is -/
def tTk (t t' : TS) : Prop := t'.2 = t.2 ∧ ∀ j, j ≠ 13 → j ≠ 14 → j ≠ 15 → j ≠ 16 → t'.1 j = t.1 j
theorem tTk.bf {t t' : TS} (h : tTk t t') (ht : tBf t) : tBf t' := by
  unfold tBf at *
  rw [h.1, h.2 12 (by omega) (by omega) (by omega) (by omega)]
  exact ht
/-- a word is gone over -/
theorem x_advance_w {b : Nat} {t : TS} {h : HP} (ht : tBf t) (h14 : 0 ≤ t.1 14) (h2 : t.1 14 ≤ t.1 12) : ∃ t', b_X9_advance_87 (some b) (TH b t h) = some ((), TH b t' h) ∧ t'.2 = t.2 ∧ (∀ j, j ≠ 14 → t'.1 j = t.1 j) ∧ t'.1 14 = endp isL (t.2 9) (t.1 12) (t.1 14) := by
  unfold b_X9_advance_87
  refine fx_FU (bot := fun (_ : Option Nat) (_ : HP) => (none : Option (Unit × HP))) (body := c_X9_advance_87)
    (fun F (s : TS) => F (some b) (TH b s h)) (fun s => s.2 = t.2 ∧ (∀ j, j ≠ 14 → s.1 j = t.1 j) ∧ 0 ≤ s.1 14 ∧ s.1 14 ≤ t.1 12 ∧ endp isL (t.2 9) (t.1 12) (s.1 14) = endp isL (t.2 9) (t.1 12) (t.1 14)) (fun s => (t.1 12 - s.1 14).toNat)
    (fun s v => ∃ t', v = some ((), TH b t' h) ∧ t'.2 = t.2 ∧ (∀ j, j ≠ 14 → t'.1 j = t.1 j) ∧ t'.1 14 = endp isL (t.2 9) (t.1 12) (t.1 14)) ?_
    t ⟨rfl, fun _ _ => rfl, h14, h2, rfl⟩ (by have := ht.1; omega)
  rintro rec u ⟨h3, h4, h5, h6, h7⟩ ih
  have hb : tBf u := by
    unfold tBf at *
    rw [h3, h4 12 (by omega)]
    exact ht
  have e12 : u.1 12 = t.1 12 := h4 12 (by omega)
  have h600 := ht.1
  unfold c_X9_advance_87 b_X9_advance_241
  simp only [th_I14, th_rcv, Option.bind_some]
  rw [x_isLetterAt hb h5 (by omega)]
  simp only [hb_some, iEQ_bZ]
  rw [h3, e12]
  by_cases g : u.1 14 < t.1 12
  · have es := endp_step (p := isL) (f := t.2 9) g
    by_cases g2 : isL (byt (t.2 9) (t.1 12) (u.1 14)) = true
    · rw [if_pos g2]
      rw [if_pos g2] at es
      simp only [th_I14, th_W14, Option.bind_some]
      refine ih (upN u.1 14 (u.1 14 + 1), u.2) ⟨h3, fun j hj => by dsimp only; rw [upN_ne hj]; exact h4 j hj, ?_, ?_, ?_⟩ ?_
      · simp [upN]; omega
      · simp [upN]; omega
      · have : upN u.1 14 (u.1 14 + 1) 14 = u.1 14 + 1 := by simp [upN]
        dsimp only
        rw [this, ← es]; exact h7
      · simp [upN]; omega
    · rw [if_neg g2]
      rw [if_neg g2] at es
      exact ⟨u, rfl, h3, h4, by rw [← h7, es]⟩
  · have e1 : u.1 14 = t.1 12 := by omega
    have g2 : isL (byt (t.2 9) (t.1 12) (u.1 14)) = false := by
      unfold isL byt
      rw [if_neg g]
      rfl
    rw [if_neg (by rw [g2]; decide)]
    exact ⟨u, rfl, h3, h4, by rw [← h7, e1, endp_end]⟩
/-- a number is gone over -/
theorem x_advance_d {b : Nat} {t : TS} {h : HP} (ht : tBf t) (h13 : 0 ≤ t.1 13) (h14 : t.1 14 = t.1 13) (h16 : t.1 16 = 0) (h2 : t.1 14 ≤ t.1 12) : ∃ t', b_X9_advance_127 (some b) (TH b t h) = some ((), TH b t' h) ∧ t'.2 = t.2 ∧ (∀ j, j ≠ 14 → j ≠ 16 → t'.1 j = t.1 j) ∧ t'.1 14 = endp isD (t.2 9) (t.1 12) (t.1 13) ∧ t'.1 16 = vlu (t.2 9) (t.1 13) (endp isD (t.2 9) (t.1 12) (t.1 13) - t.1 13).toNat := by
  unfold b_X9_advance_127
  refine fx_FU (bot := fun (_ : Option Nat) (_ : HP) => (none : Option (Unit × HP))) (body := c_X9_advance_127)
    (fun F (s : TS) => F (some b) (TH b s h)) (fun s => s.2 = t.2 ∧ (∀ j, j ≠ 14 → j ≠ 16 → s.1 j = t.1 j) ∧ t.1 13 ≤ s.1 14 ∧ s.1 14 ≤ t.1 12 ∧ endp isD (t.2 9) (t.1 12) (s.1 14) = endp isD (t.2 9) (t.1 12) (t.1 13) ∧ s.1 16 = vlu (t.2 9) (t.1 13) (s.1 14 - t.1 13).toNat) (fun s => (t.1 12 - s.1 14).toNat)
    (fun s v => ∃ t', v = some ((), TH b t' h) ∧ t'.2 = t.2 ∧ (∀ j, j ≠ 14 → j ≠ 16 → t'.1 j = t.1 j) ∧ t'.1 14 = endp isD (t.2 9) (t.1 12) (t.1 13) ∧ t'.1 16 = vlu (t.2 9) (t.1 13) (endp isD (t.2 9) (t.1 12) (t.1 13) - t.1 13).toNat) ?_
    t ⟨rfl, fun _ _ _ => rfl, by omega, h2, by rw [h14], by rw [h14, h16, show (t.1 13 - t.1 13).toNat = 0 by omega]; rfl⟩ (by have := ht.1; omega)
  rintro rec u ⟨h3, h4, h5, h6, h7, h8⟩ ih
  have hb : tBf u := by
    unfold tBf at *
    rw [h3, h4 12 (by omega) (by omega)]
    exact ht
  have e12 : u.1 12 = t.1 12 := h4 12 (by omega) (by omega)
  have e13 : u.1 13 = t.1 13 := h4 13 (by omega) (by omega)
  have h600 := ht.1
  unfold c_X9_advance_127 b_X9_advance_241
  simp only [th_I14, th_rcv, Option.bind_some]
  rw [x_isDigitAt hb (by omega) (by omega)]
  simp only [hb_some, iEQ_bZ]
  rw [h3, e12]
  by_cases g : u.1 14 < t.1 12
  · have es := endp_step (p := isD) (f := t.2 9) g
    by_cases g2 : isD (byt (t.2 9) (t.1 12) (u.1 14)) = true
    · rw [if_pos g2]
      rw [if_pos g2] at es
      have step : ∀ z : Int, z = vlu (t.2 9) (t.1 13) (u.1 14 + 1 - t.1 13).toNat → ∃ t', b_X9_advance_178 rec (some b) z (some b) (TH b u h) = some ((), TH b t' h) ∧ t'.2 = t.2 ∧ (∀ j, j ≠ 14 → j ≠ 16 → t'.1 j = t.1 j) ∧ t'.1 14 = endp isD (t.2 9) (t.1 12) (t.1 13) ∧ t'.1 16 = vlu (t.2 9) (t.1 13) (endp isD (t.2 9) (t.1 12) (t.1 13) - t.1 13).toNat := by
        intro z hz
        unfold b_X9_advance_178
        have w14 : upN u.1 16 z 14 = u.1 14 := by simp [upN]
        simp only [th_W16, th_I14, th_W14, Option.bind_some, w14]
        have v14 : upN (upN u.1 16 z) 14 (u.1 14 + 1) 14 = u.1 14 + 1 := by simp [upN]
        have v16 : upN (upN u.1 16 z) 14 (u.1 14 + 1) 16 = z := by simp [upN]
        refine ih (upN (upN u.1 16 z) 14 (u.1 14 + 1), u.2) ⟨h3, fun j a c => by dsimp only; rw [upN_ne a, upN_ne c]; exact h4 j a c, ?_, ?_, ?_, ?_⟩ ?_
        · dsimp only; rw [v14]; omega
        · dsimp only; rw [v14]; omega
        · dsimp only; rw [v14, ← es]; exact h7
        · dsimp only; rw [v14, v16]; exact hz
        · dsimp only; rw [v14]; omega
      have ev : (u.1 14 + 1 - t.1 13).toNat = (u.1 14 - t.1 13).toNat + 1 := by omega
      simp only [th_I14, th_I13, Option.bind_some, e13]
      rw [iLE_in (by omega) (by omega)]
      by_cases g3 : 6 ≤ u.1 14 - t.1 13
      · rw [if_pos g3]
        refine step 1000000 ?_
        rw [ev]
        unfold vlu
        rw [if_neg (by omega)]
      · rw [if_neg g3]
        simp (discharger := omega) only [th_I16, th_R11, th_I14, th_A9, Option.bind_some, if_pos]
        refine step _ ?_
        rw [ev]
        unfold vlu
        rw [if_pos (by omega), h8, h3, show t.1 13 + (((u.1 14 - t.1 13).toNat : Nat) : Int) = u.1 14 by omega]
    · rw [if_neg g2]
      rw [if_neg g2] at es
      exact ⟨u, rfl, h3, h4, by rw [← h7, es], by rw [← h7, es]; exact h8⟩
  · have e1 : u.1 14 = t.1 12 := by omega
    have g2 : isD (byt (t.2 9) (t.1 12) (u.1 14)) = false := by
      unfold isD byt
      rw [if_neg g]
      rfl
    rw [if_neg (by rw [g2]; decide)]
    have ee : endp isD (t.2 9) (t.1 12) (t.1 13) = u.1 14 := by rw [← h7, e1, endp_end]
    exact ⟨u, rfl, h3, h4, ee.symm, by rw [ee]; exact h8⟩
def tkK (f : Int → Int) (n s : Int) : Int := if s = n then 0 else if isL (byt f n s) = true then 1 else if isD (byt f n s) = true then 2 else if f s = 59 ∨ f s = 40 ∨ f s = 41 then 3 else 4
def tkN (f : Int → Int) (n s : Int) : Int := if s = n then n else if isL (byt f n s) = true then endp isL f n s else if isD (byt f n s) = true then endp isD f n s else s + 1
def tkV (f : Int → Int) (n s : Int) : Int := if s = n then 0 else if isL (byt f n s) = true then 0 else if isD (byt f n s) = true then vlu f s (endp isD f n s - s).toNat else 0
theorem x_advance {b : Nat} {t : TS} {h : HP} (ht : tBf t) (h14 : 0 ≤ t.1 14) (h2 : t.1 14 ≤ t.1 12) : ∃ t', f_X9_advance b (TH b t h) = some ((), TH b t' h) ∧ tTk t t' ∧ t'.1 13 = endp isS (t.2 9) (t.1 12) (t.1 14) ∧ t'.1 14 = tkN (t.2 9) (t.1 12) (t'.1 13) ∧ t'.1 15 = tkK (t.2 9) (t.1 12) (t'.1 13) ∧ t'.1 16 = tkV (t.2 9) (t.1 12) (t'.1 13) := by
  unfold f_X9_advance b_X9_advance_0
  refine fx_FU (bot := fun (_ : Option Nat) (_ : HP) => (none : Option (Unit × HP))) (body := c_X9_advance_0)
    (fun F (s : TS) => F (some b) (TH b s h)) (fun s => tTk t s ∧ 0 ≤ s.1 14 ∧ s.1 14 ≤ t.1 12 ∧ endp isS (t.2 9) (t.1 12) (s.1 14) = endp isS (t.2 9) (t.1 12) (t.1 14)) (fun s => (t.1 12 - s.1 14).toNat)
    (fun s v => ∃ t', v = some ((), TH b t' h) ∧ tTk t t' ∧ t'.1 13 = endp isS (t.2 9) (t.1 12) (t.1 14) ∧ t'.1 14 = tkN (t.2 9) (t.1 12) (t'.1 13) ∧ t'.1 15 = tkK (t.2 9) (t.1 12) (t'.1 13) ∧ t'.1 16 = tkV (t.2 9) (t.1 12) (t'.1 13)) ?_
    t ⟨⟨rfl, fun _ _ _ _ _ => rfl⟩, h14, h2, rfl⟩ (by have := ht.1; omega)
  rintro rec u ⟨h3, h5, h6, h7⟩ ih
  have hb : tBf u := h3.bf ht
  have e12 : u.1 12 = t.1 12 := h3.2 12 (by omega) (by omega) (by omega) (by omega)
  have h600 := ht.1
  have hby := byt_in hb h5
  have e9 : u.2 9 = t.2 9 := by rw [h3.1]
  rw [e9, e12] at hby
  unfold c_X9_advance_0
  simp only [th_I14, th_rcv, Option.bind_some]
  rw [x_byteAt hb h5 (by omega)]
  simp only [hb_some, th_I14, th_rcv, Option.bind_some]
  rw [x_byteAt hb h5 (by omega), e9, e12]
  simp only [hb_some]
  rw [iEQ_in (by omega) (by omega), iEQ_in (by omega) (by omega)]
  have skip : isS (byt (t.2 9) (t.1 12) (u.1 14)) = true → ∃ t', b_X9_advance_26 rec (some b) (TH b u h) = some ((), TH b t' h) ∧ tTk t t' ∧ t'.1 13 = endp isS (t.2 9) (t.1 12) (t.1 14) ∧ t'.1 14 = tkN (t.2 9) (t.1 12) (t'.1 13) ∧ t'.1 15 = tkK (t.2 9) (t.1 12) (t'.1 13) ∧ t'.1 16 = tkV (t.2 9) (t.1 12) (t'.1 13) := by
    intro hs
    have g : u.1 14 < t.1 12 := by
      by_cases g : u.1 14 < t.1 12
      · exact g
      · unfold isS byt at hs
        rw [if_neg g] at hs
        exact absurd hs (by decide)
    have es := endp_step (p := isS) (f := t.2 9) g
    rw [if_pos hs] at es
    unfold b_X9_advance_26
    have v14 : upN u.1 14 (u.1 14 + 1) 14 = u.1 14 + 1 := by simp [upN]
    simp only [th_I14, th_W14, Option.bind_some]
    refine ih (upN u.1 14 (u.1 14 + 1), u.2) ⟨⟨h3.1, fun j a c d e => by dsimp only; rw [upN_ne c]; exact h3.2 j a c d e⟩, ?_, ?_, ?_⟩ ?_
    · dsimp only; rw [v14]; omega
    · dsimp only; rw [v14]; omega
    · dsimp only; rw [v14, ← es]; exact h7
    · dsimp only; rw [v14]; omega
  by_cases g1 : byt (t.2 9) (t.1 12) (u.1 14) = 32
  · rw [if_pos g1]
    exact skip (by unfold isS; simp [g1])
  · rw [if_neg g1]
    by_cases g2 : byt (t.2 9) (t.1 12) (u.1 14) = 10
    · rw [if_pos g2]
      exact skip (by unfold isS; simp [g2])
    · rw [if_neg g2]
      have hns : isS (byt (t.2 9) (t.1 12) (u.1 14)) = false := by unfold isS; simp [g1, g2]
      have es : endp isS (t.2 9) (t.1 12) (t.1 14) = u.1 14 := by
        rw [← h7]
        by_cases g : u.1 14 < t.1 12
        · rw [endp_step g, hns]; rfl
        · rw [show u.1 14 = t.1 12 by omega, endp_end]
      have w14 : upN u.1 13 (u.1 14) 14 = u.1 14 := by simp [upN]
      have w13 : upN (upN u.1 13 (u.1 14)) 16 0 13 = u.1 14 := by simp [upN]
      have w12 : upN (upN u.1 13 (u.1 14)) 16 0 12 = t.1 12 := by simp [upN, e12]
      simp only [th_I14, th_W13, th_W16, th_I13, th_I12, Option.bind_some, w13, w12]
      obtain ⟨v, hv⟩ : ∃ v : TS, v = (upN (upN u.1 13 (u.1 14)) 16 0, u.2) := ⟨_, rfl⟩
      rw [← hv]
      have v2 : v.2 = t.2 := by rw [hv]; exact h3.1
      have v13 : v.1 13 = u.1 14 := by rw [hv]; exact w13
      have v14 : v.1 14 = u.1 14 := by rw [hv]; simp [upN]
      have v16 : v.1 16 = 0 := by rw [hv]; simp [upN]
      have v12 : v.1 12 = t.1 12 := by rw [hv]; exact w12
      have vo : ∀ j, j ≠ 13 → j ≠ 14 → j ≠ 15 → j ≠ 16 → v.1 j = t.1 j := fun j a c d e => by rw [hv]; dsimp only; rw [upN_ne e, upN_ne a]; exact h3.2 j a c d e
      have hbv : tBf v := by unfold tBf at *; rw [v2, v12]; exact ht
      rw [iEQ_in (by omega) (by omega)]
      unfold tkN tkK tkV
      rw [es]
      by_cases g3 : u.1 14 = t.1 12
      · rw [if_pos g3]
        unfold b_X9_advance_241
        simp only [th_W15, Option.bind_some]
        have z13 : upN v.1 15 0 13 = u.1 14 := by simp [upN, v13]
        refine ⟨(upN v.1 15 0, v.2), rfl, ⟨v2, fun j a c d e => by dsimp only; rw [upN_ne d]; exact vo j a c d e⟩, z13, ?_, ?_, ?_⟩
        · dsimp only; rw [if_pos (z13.trans g3)]; simp [upN, v14, g3]
        · dsimp only; rw [if_pos (z13.trans g3)]; simp [upN]
        · dsimp only; rw [if_pos (z13.trans g3)]; simp [upN, v16]
      · rw [if_neg g3]
        simp only [th_I13, th_rcv, Option.bind_some, v13]
        rw [x_isLetterAt hbv h5 (by omega), v2, v12]
        simp only [hb_some, iEQ_bZ]
        by_cases g4 : isL (byt (t.2 9) (t.1 12) (u.1 14)) = true
        · rw [if_pos g4]
          simp only [th_W15, Option.bind_some]
          obtain ⟨t', p1, p2, p3, p4⟩ := x_advance_w (b := b) (t := (upN v.1 15 1, v.2)) (h := h) (by unfold tBf at *; dsimp only; rw [upN_ne (by omega)]; exact hbv) (by dsimp only; rw [upN_ne (by omega), v14]; exact h5) (by dsimp only; rw [upN_ne (by omega), upN_ne (by omega), v14, v12]; exact h6)
          rw [p1]
          dsimp only at p2 p3 p4
          rw [upN_ne (by omega), upN_ne (by omega), v14, v12, v2] at p4
          have z13 : t'.1 13 = u.1 14 := by rw [p3 13 (by omega), upN_ne (by omega), v13]
          refine ⟨t', rfl, ⟨p2.trans v2, fun j a c d e => by rw [p3 j c, upN_ne d]; exact vo j a c d e⟩, z13, ?_, ?_, ?_⟩
          · rw [z13, if_neg g3, if_pos g4]; exact p4
          · rw [z13, if_neg g3, if_pos g4, p3 15 (by omega)]; simp [upN]
          · rw [z13, if_neg g3, if_pos g4, p3 16 (by omega), upN_ne (by omega), v16]
        · rw [if_neg g4]
          simp only [th_I13, th_rcv, Option.bind_some, v13]
          rw [x_isDigitAt hbv h5 (by omega), v2, v12]
          simp only [hb_some, iEQ_bZ]
          by_cases g5 : isD (byt (t.2 9) (t.1 12) (u.1 14)) = true
          · rw [if_pos g5]
            simp only [th_W15, Option.bind_some]
            obtain ⟨t', p1, p2, p3, p4, p5⟩ := x_advance_d (b := b) (t := (upN v.1 15 2, v.2)) (h := h) (by unfold tBf at *; dsimp only; rw [upN_ne (by omega)]; exact hbv) (by dsimp only; rw [upN_ne (by omega), v13]; exact h5) (by dsimp only; rw [upN_ne (by omega), upN_ne (by omega), v14, v13]) (by dsimp only; rw [upN_ne (by omega)]; exact v16) (by dsimp only; rw [upN_ne (by omega), upN_ne (by omega), v14, v12]; exact h6)
            rw [p1]
            dsimp only at p2 p3 p4 p5
            rw [upN_ne (by omega), upN_ne (by omega), v13, v12, v2] at p4
            rw [upN_ne (by omega), upN_ne (by omega), v13, v12, v2] at p5
            have z13 : t'.1 13 = u.1 14 := by rw [p3 13 (by omega) (by omega), upN_ne (by omega), v13]
            refine ⟨t', rfl, ⟨p2.trans v2, fun j a c d e => by rw [p3 j c e, upN_ne d]; exact vo j a c d e⟩, z13, ?_, ?_, ?_⟩
            · rw [z13, if_neg g3, if_neg g4, if_pos g5]; exact p4
            · rw [z13, if_neg g3, if_neg g4, if_pos g5, p3 15 (by omega) (by omega)]; simp [upN]
            · rw [z13, if_neg g3, if_neg g4, if_pos g5]; exact p5
          · rw [if_neg g5]
            have hf := ht.2 (u.1 14) h5 (by omega)
            have fin : ∀ z : Int, z = (if t.2 9 (u.1 14) = 59 ∨ t.2 9 (u.1 14) = 40 ∨ t.2 9 (u.1 14) = 41 then 3 else 4) → ∃ t', b_X9_advance_228 (some b) z (some b) (TH b v h) = some ((), TH b t' h) ∧ tTk t t' ∧ t'.1 13 = u.1 14 ∧ t'.1 14 = u.1 14 + 1 ∧ t'.1 15 = z ∧ t'.1 16 = 0 := by
              intro z hz
              unfold b_X9_advance_228 b_X9_advance_241
              have y14 : upN v.1 15 z 14 = u.1 14 := by simp [upN, v14]
              simp only [th_W15, th_I14, th_W14, Option.bind_some, y14]
              refine ⟨_, rfl, ⟨v2, fun j a c d e => by dsimp only; rw [upN_ne c, upN_ne d]; exact vo j a c d e⟩, ?_, ?_, ?_, ?_⟩
              · simp [upN, v13]
              · simp [upN]
              · simp [upN]
              · simp [upN, v16]
            unfold b_X9_advance_223
            simp (discharger := omega) only [th_R11, th_I13, th_A9, Option.bind_some, if_pos, v13, v2]
            rw [iEQ_in (by omega) (by omega), iEQ_in (by omega) (by omega), iEQ_in (by omega) (by omega)]
            have don : ∀ z : Int, z = (if t.2 9 (u.1 14) = 59 ∨ t.2 9 (u.1 14) = 40 ∨ t.2 9 (u.1 14) = 41 then 3 else 4) → ∃ t', b_X9_advance_228 (some b) z (some b) (TH b v h) = some ((), TH b t' h) ∧ tTk t t' ∧ t'.1 13 = u.1 14 ∧ (t'.1 14 = if t'.1 13 = t.1 12 then t.1 12 else if isL (byt (t.2 9) (t.1 12) (t'.1 13)) = true then endp isL (t.2 9) (t.1 12) (t'.1 13) else if isD (byt (t.2 9) (t.1 12) (t'.1 13)) = true then endp isD (t.2 9) (t.1 12) (t'.1 13) else t'.1 13 + 1) ∧ (t'.1 15 = if t'.1 13 = t.1 12 then 0 else if isL (byt (t.2 9) (t.1 12) (t'.1 13)) = true then 1 else if isD (byt (t.2 9) (t.1 12) (t'.1 13)) = true then 2 else if t.2 9 (t'.1 13) = 59 ∨ t.2 9 (t'.1 13) = 40 ∨ t.2 9 (t'.1 13) = 41 then 3 else 4) ∧
                (t'.1 16 = if t'.1 13 = t.1 12 then 0 else if isL (byt (t.2 9) (t.1 12) (t'.1 13)) = true then 0 else if isD (byt (t.2 9) (t.1 12) (t'.1 13)) = true then vlu (t.2 9) (t'.1 13) (endp isD (t.2 9) (t.1 12) (t'.1 13) - t'.1 13).toNat else 0) := by
              intro z hz
              obtain ⟨t', p1, p2, p3, p4, p5, p6⟩ := fin z hz
              refine ⟨t', p1, p2, p3, ?_, ?_, ?_⟩
              · rw [p3, if_neg g3, if_neg g4, if_neg g5]; exact p4
              · rw [p3, if_neg g3, if_neg g4, if_neg g5, p5]; exact hz
              · rw [p3, if_neg g3, if_neg g4, if_neg g5]; exact p6
            by_cases a1 : t.2 9 (u.1 14) = 59
            · rw [if_pos a1]; exact don 3 (by rw [if_pos (Or.inl a1)])
            · rw [if_neg a1]
              by_cases a2 : t.2 9 (u.1 14) = 40
              · rw [if_pos a2]; exact don 3 (by rw [if_pos (Or.inr (Or.inl a2))])
              · rw [if_neg a2]
                by_cases a3 : t.2 9 (u.1 14) = 41
                · rw [if_pos a3]; exact don 3 (by rw [if_pos (Or.inr (Or.inr a3))])
                · rw [if_neg a3]; exact don 4 (by rw [if_neg (by omega)])
