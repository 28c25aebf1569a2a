/-! STAGE 2B: the reference: errors, keys, signs. -/
set_option maxRecDepth 100000
/-- an error is noted where the token begins, if there is none yet -/
def flt (t : TS) (k : Int) : TS := (upN (upN t.1 17 k) 18 (t.1 13), t.2)
theorem x_faulty {b : Nat} {t : TS} {h : HP} {z : Bool} {k : Int} (hk : k ≠ 0) (hk2 : inR k) (h17 : inR (t.1 17)) : f_X9_faulty b (bZ z) k (TH b t h) = some (bZ (decide (t.1 17 ≠ 0) || z), TH b (if t.1 17 = 0 ∧ z = true then flt t k else t) h) := by
  unfold f_X9_faulty b_X9_faulty_24 b_X9_faulty_36
  simp only [th_I17, Option.bind_some]
  rw [iEQ_in h17 (by omega)]
  by_cases g : t.1 17 = 0
  · rw [if_pos g, iEQ_bZ]
    cases z
    · simp [g, bZ, iEQ, rtZ]
    · have e1 : upN t.1 17 k 13 = t.1 13 := by simp [upN]
      have e2 : upN (upN t.1 17 k) 18 (t.1 13) 17 = k := by simp [upN]
      simp only [if_true, th_W17, th_I13, th_W18, th_I17, Option.bind_some, e1, e2]
      rw [iEQ_in hk2 (by omega), if_neg hk, rtZ_in (Or.inr rfl)]
      simp [g, bZ, flt]
  · rw [if_neg g, iEQ_in h17 (by omega), if_neg g, rtZ_in (Or.inr rfl)]
    simp [g, bZ]
/-- a token is at hand -/
def tTo (t : TS) : Prop := tBf t ∧ 0 ≤ t.1 13 ∧ t.1 13 ≤ t.1 14 ∧ t.1 14 ≤ t.1 12 ∧ inR (t.1 17) ∧ inR (t.1 15)
theorem x_isSign {b : Nat} {t : TS} {h : HP} {c : Int} (ht : tTo t) (hc : inR c) (h3 : t.1 15 = 3 → t.1 13 < t.1 12) : f_X9_isSign b c (TH b t h) = some (bZ (decide (t.1 17 = 0 ∧ t.1 15 = 3 ∧ t.2 9 (t.1 13) = c)), TH b t h) := by
  obtain ⟨hb, h13, h14, h12, h17, h15⟩ := ht
  have h600 := hb.1
  unfold f_X9_isSign b_X9_isSign_32 b_X9_isSign_33
  simp only [th_I17, Option.bind_some]
  rw [iEQ_in h17 (by omega)]
  by_cases g : t.1 17 = 0
  · rw [if_pos g]
    simp only [th_I15, Option.bind_some]
    rw [iEQ_in h15 (by omega)]
    by_cases g2 : t.1 15 = 3
    · have hb9 := hb.2 (t.1 13) h13 (h3 g2)
      have := h3 g2
      rw [if_pos g2]
      simp (discharger := omega) only [th_R11, th_I13, th_A9, Option.bind_some, if_pos]
      rw [iEQ_in (by omega) hc]
      by_cases g4 : t.2 9 (t.1 13) = c
      · rw [if_pos g4, rtZ_in (Or.inr rfl)]; simp [g, g2, g4, bZ]
      · rw [if_neg g4, rtZ_in (Or.inl rfl)]; simp [g4, bZ]
    · rw [if_neg g2, rtZ_in (Or.inl rfl)]; simp [g2, bZ]
  · rw [if_neg g, rtZ_in (Or.inl rfl)]; simp [g, bZ]
/-- the token is the word g of n letters -/
def isW (t : TS) (n : Nat) (g : Int → Int) : Bool := decide (t.1 17 = 0 ∧ t.1 15 = 1 ∧ t.1 14 - t.1 13 = n) && (fnd (fun i => decide (t.2 9 (t.1 13 + i) ≠ g i)) 0 n).isNone
theorem x_isKey {b a n : Nat} {t : TS} {h : HP} {g : Int → Int} (ht : tTo t) (hs : strAt (TH b t h) a n g) : f_X9_isKey b (some a) (TH b t h) = some (bZ (isW t n g), TH b t h) := by
  obtain ⟨hb, h13, h14, h12, h17, h15⟩ := ht
  have h600 := hb.1
  have rc : rcv (TH b t h) (some a) [26] = some a := by
    obtain ⟨t1, v, t2, x, z, h1, -⟩ := hs
    simp [rcv, clsOf, h1]
  have hn : n ≤ 1000000 := by
    obtain ⟨t1, v, t2, x, z, -, -, h3, -⟩ := hs
    exact h3
  have hg : ∀ i : Int, 0 ≤ i → i < n → 0 ≤ g i ∧ g i < 128 := by
    obtain ⟨t1, v, t2, x, z, -, -, -, h4⟩ := hs
    exact h4
  unfold f_X9_isKey b_X9_isKey_26 isW
  simp only [th_I17, Option.bind_some]
  rw [iEQ_in h17 (by omega)]
  by_cases e1 : t.1 17 = 0
  · rw [if_pos e1]
    simp only [th_I15, Option.bind_some]
    rw [iEQ_in h15 (by omega)]
    by_cases e2 : t.1 15 = 1
    · rw [if_pos e2]
      unfold f_X9_length
      simp only [th_rcv, th_I14, th_I13, Option.bind_some, hb_some, rc]
      rw [s_length hs]
      simp only [hb_some]
      rw [iEQ_in (by omega) (by omega)]
      by_cases e3 : t.1 14 - t.1 13 = n
      · rw [if_pos e3, decide_eq_true ⟨e1, e2, e3⟩, Bool.true_and]
        unfold b_X9_isKey_30
        have key := fx_FU (bot := fun (_ _ : Option Nat) (_ : Int) (_ : HP) => (none : Option (Int × HP))) (body := c_X9_isKey_30)
          (fun F (k : Int) => F (some b) (some a) k (TH b t h)) (fun k => 0 ≤ k ∧ k ≤ n) (fun k => (n - k).toNat)
          (fun k v => v = some (bZ (fnd (fun i => decide (t.2 9 (t.1 13 + i) ≠ g i)) k ((n : Int) - k).toNat).isNone, TH b t h)) ?_ 0 ⟨by omega, by omega⟩ (by omega)
        · rw [key, Int.sub_zero, Int.toNat_natCast]
        · rintro rec k ⟨h5, h6⟩ ih
          unfold c_X9_isKey_30 f_X9_length
          simp only [th_rcv, th_I14, th_I13, Option.bind_some, hb_some, e3]
          rw [iLE_in (by omega) (by omega)]
          by_cases g1 : (n : Int) ≤ k
          · rw [if_pos g1, show ((n : Int) - k).toNat = 0 by omega]
            rfl
          · have hb9 := hb.2 (t.1 13 + k) (by omega) (by omega)
            have hgk := hg k h5 (by omega)
            rw [if_neg g1]
            simp (discharger := omega) only [th_R11, th_I13, th_A9, Option.bind_some, if_pos, rc]
            rw [s_charAt hs h5 (by omega)]
            simp only [hb_some]
            rw [iEQ_in (by omega) (by omega), show ((n : Int) - k).toNat = ((n : Int) - (k + 1)).toNat + 1 by omega]
            unfold fnd
            by_cases g2 : t.2 9 (t.1 13 + k) = g k
            · have := ih (k + 1) ⟨by omega, by omega⟩ (by omega)
              simp only [g2, if_true, ne_eq, not_true_eq_false, decide_false, Bool.false_eq_true, if_false]
              exact this
            · simp [g2, bZ]
      · rw [if_neg e3, decide_eq_false (fun z => e3 z.2.2)]; rfl
    · rw [if_neg e2, decide_eq_false (fun z => e2 z.2.1)]; rfl
  · rw [if_neg e1, decide_eq_false (fun z => e1 z.1)]; rfl
theorem flt_13 {t : TS} {k : Int} : (flt t k).1 13 = t.1 13 := by simp [flt, upN]
theorem flt_17 {t : TS} {k : Int} : (flt t k).1 17 = k := by simp [flt, upN]
theorem flt_2 {t : TS} {k : Int} : (flt t k).2 = t.2 := rfl
theorem flt_o {t : TS} {k : Int} {j : Nat} (h : j ≠ 17) (h2 : j ≠ 18) : (flt t k).1 j = t.1 j := by
  show upN (upN t.1 17 k) 18 (t.1 13) j = t.1 j
  rw [upN_ne h2, upN_ne h]
/-- after the next token is fetched, one is at hand -/
theorem tTo_adv {t t' : TS} (hb : tBf t) (h14 : 0 ≤ t.1 14) (h2 : t.1 14 ≤ t.1 12) (h17 : inR (t.1 17)) (p2 : tTk t t') (p3 : t'.1 13 = endp isS (t.2 9) (t.1 12) (t.1 14)) (p4 : t'.1 14 = tkN (t.2 9) (t.1 12) (t'.1 13)) (p5 : t'.1 15 = tkK (t.2 9) (t.1 12) (t'.1 13)) : tTo t' ∧ (t'.1 15 = 3 → t'.1 13 < t'.1 12) := by
  have e12 : t'.1 12 = t.1 12 := p2.2 12 (by omega) (by omega) (by omega) (by omega)
  have e17 : t'.1 17 = t.1 17 := p2.2 17 (by omega) (by omega) (by omega) (by omega)
  have hs := endp_le (p := isS) (f := t.2 9) h2
  rw [← p3] at hs
  have h600 := hb.1
  have hn : t'.1 13 ≤ t'.1 14 ∧ t'.1 14 ≤ t.1 12 := by
    rw [p4]
    unfold tkN
    by_cases g : t'.1 13 = t.1 12
    · rw [if_pos g]; omega
    · rw [if_neg g]
      have hl := endp_le (p := isL) (f := t.2 9) hs.2
      have hd := endp_le (p := isD) (f := t.2 9) hs.2
      by_cases g2 : isL (byt (t.2 9) (t.1 12) (t'.1 13)) = true
      · rw [if_pos g2]; exact hl
      · rw [if_neg g2]
        by_cases g3 : isD (byt (t.2 9) (t.1 12) (t'.1 13)) = true
        · rw [if_pos g3]; exact hd
        · rw [if_neg g3]; omega
  have h15 : (0 ≤ t'.1 15 ∧ t'.1 15 ≤ 4) ∧ (t'.1 15 = 3 → t'.1 13 ≠ t.1 12) := by
    rw [p5]
    unfold tkK
    by_cases g : t'.1 13 = t.1 12
    · rw [if_pos g]; omega
    · rw [if_neg g]
      refine ⟨?_, fun _ => g⟩
      by_cases g2 : isL (byt (t.2 9) (t.1 12) (t'.1 13)) = true
      · rw [if_pos g2]; omega
      · rw [if_neg g2]
        by_cases g3 : isD (byt (t.2 9) (t.1 12) (t'.1 13)) = true
        · rw [if_pos g3]; omega
        · rw [if_neg g3]
          by_cases g4 : t.2 9 (t'.1 13) = 59 ∨ t.2 9 (t'.1 13) = 40 ∨ t.2 9 (t'.1 13) = 41
          · rw [if_pos g4]; omega
          · rw [if_neg g4]; omega
  refine ⟨⟨p2.bf hb, by omega, hn.1, by rw [e12]; exact hn.2, by rw [e17]; exact h17, by omega⟩, fun z => ?_⟩
  have := h15.2 z
  rw [e12]; omega
/-- the next token, from where this one ends -/
def tAdv (t t' : TS) : Prop := tTk t t' ∧ t'.1 13 = endp isS (t.2 9) (t.1 12) (t.1 14) ∧ t'.1 14 = tkN (t.2 9) (t.1 12) (t'.1 13) ∧ t'.1 15 = tkK (t.2 9) (t.1 12) (t'.1 13) ∧ t'.1 16 = tkV (t.2 9) (t.1 12) (t'.1 13)
theorem x_takesSign {b : Nat} {t : TS} {h : HP} {c : Int} (ht : tTo t) (hc : inR c) (h3 : t.1 15 = 3 → t.1 13 < t.1 12) :
    if t.1 17 = 0 then (if t.1 15 = 3 ∧ t.2 9 (t.1 13) = c then ∃ t', f_X9_takesSign b c (TH b t h) = some ((), TH b t' h) ∧ tAdv t t' else f_X9_takesSign b c (TH b t h) = some ((), TH b (flt t 1) h)) else f_X9_takesSign b c (TH b t h) = some ((), TH b t h) := by
  obtain ⟨hb, h13, h14, h12, h17, h15⟩ := id ht
  have f1 := x_faulty (b := b) (t := t) (h := h) (z := true) (k := 1) (by omega) (by omega) h17
  have f0 := x_faulty (b := b) (t := t) (h := h) (z := false) (k := 1) (by omega) (by omega) h17
  simp only [bZ, if_true, Bool.false_eq_true, if_false] at f1 f0
  unfold f_X9_takesSign
  simp only [th_rcv, Option.bind_some]
  rw [x_isSign ht hc h3]
  simp only [hb_some, iEQ_bZ]
  unfold b_X9_takesSign_14 b_X9_takesSign_25
  by_cases e1 : t.1 17 = 0
  · rw [if_pos e1]
    by_cases e2 : t.1 15 = 3 ∧ t.2 9 (t.1 13) = c
    · rw [if_pos e2]
      rw [if_pos (by simp [e1, e2])]
      simp only [th_rcv, Option.bind_some, f0, e1]
      obtain ⟨t', p1, p2, p3, p4, p5, p6⟩ := x_advance (b := b) (h := h) hb (by omega) h12
      simp only [ne_eq, not_true_eq_false, decide_false, Bool.or_self, Bool.false_eq_true, if_false, and_false, hb_some, i00, th_rcv, Option.bind_some, p1]
      exact ⟨t', rfl, p2, p3, p4, p5, p6⟩
    · rw [if_neg e2]
      rw [if_neg (by simp only [decide_eq_true_eq]; exact fun z => e2 z.2)]
      simp only [th_rcv, Option.bind_some, f1, e1]
      simp [hb_some, i10]
  · rw [if_neg e1]
    rw [if_neg (by simp only [decide_eq_true_eq]; exact fun z => e1 z.1)]
    simp only [th_rcv, Option.bind_some, f1]
    simp [e1, hb_some, i10]
theorem x_number {b : Nat} {t : TS} {h : HP} {lo hi : Int} (ht : tTo t) (hl : inR lo) (hh : inR hi) (hv : inR (t.1 16)) :
    if t.1 17 = 0 then (if t.1 15 = 2 then (if lo ≤ t.1 16 ∧ t.1 16 ≤ hi then ∃ t', f_X9_number b lo hi (TH b t h) = some (t.1 16, TH b t' h) ∧ tAdv t t' else f_X9_number b lo hi (TH b t h) = some (lo, TH b (flt t 2) h)) else f_X9_number b lo hi (TH b t h) = some (lo, TH b (flt t 1) h)) else f_X9_number b lo hi (TH b t h) = some (lo, TH b t h) := by
  obtain ⟨hB, h13, h14, h12, h17, h15⟩ := id ht
  have f1 := x_faulty (b := b) (t := t) (h := h) (z := true) (k := 1) (by omega) (by omega) h17
  have f0 := x_faulty (b := b) (t := t) (h := h) (z := false) (k := 1) (by omega) (by omega) h17
  have g1 := x_faulty (b := b) (t := t) (h := h) (z := true) (k := 2) (by omega) (by omega) h17
  have g0 := x_faulty (b := b) (t := t) (h := h) (z := false) (k := 2) (by omega) (by omega) h17
  simp only [bZ, if_true, Bool.false_eq_true, if_false] at f1 f0 g1 g0
  unfold f_X9_number b_X9_number_14 b_X9_number_46
  simp only [th_I15, Option.bind_some]
  rw [iEQ_in h15 (by omega)]
  by_cases e1 : t.1 17 = 0
  · rw [if_pos e1]
    by_cases e2 : t.1 15 = 2
    · rw [if_pos e2, if_pos e2]
      simp only [th_rcv, Option.bind_some, f0, e1]
      simp only [ne_eq, not_true_eq_false, decide_false, Bool.or_self, Bool.false_eq_true, if_false, and_false, hb_some, i00, th_I16, Option.bind_some]
      rw [x_in hv hl hh]
      simp only [hb_some, iEQ_bZ]
      unfold b_X9_number_39 b_X9_number_46
      by_cases e3 : lo ≤ t.1 16 ∧ t.1 16 ≤ hi
      · rw [if_pos e3, if_pos (by simp [e3])]
        simp only [th_rcv, Option.bind_some, g0, e1]
        obtain ⟨t', p1, p2, p3, p4, p5, p6⟩ := x_advance (b := b) (h := h) hB (by omega) h12
        simp only [ne_eq, not_true_eq_false, decide_false, Bool.or_self, Bool.false_eq_true, if_false, and_false, hb_some, i00, th_I16, th_rcv, Option.bind_some, p1]
        exact ⟨t', rfl, p2, p3, p4, p5, p6⟩
      · rw [if_neg e3, if_neg (by simp only [decide_eq_true_eq]; exact e3)]
        simp only [th_rcv, Option.bind_some, g1, e1]
        simp [hb_some, i10]
    · rw [if_neg e2, if_neg e2]
      simp only [th_rcv, Option.bind_some, f1, e1]
      simp [hb_some, i10]
  · rw [if_neg e1]
    by_cases e2 : t.1 15 = 2
    · rw [if_pos e2]
      simp only [th_rcv, Option.bind_some, f0]
      simp [e1, hb_some, i10]
    · rw [if_neg e2]
      simp only [th_rcv, Option.bind_some, f1]
      simp [e1, hb_some, i10]
