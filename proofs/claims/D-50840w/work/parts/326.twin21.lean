/-! STAGE 2x: the reference: the longest twin; undo, save, restore. -/
set_option maxRecDepth 100000
def twi (K : SK) (a most c : Int) : Nat → Int
  | 0 => most
  | n + 1 => twi K a (max most (al (kw K a) (kw K c) (kf K) (kn K - c))) (c + 1) n
def two (K : SK) (most a : Int) : Nat → Int
  | 0 => most
  | n + 1 => two K (twi K a most (a + 1) (kn K - (a + 1)).toNat) (a + 1) n
def kTwin (K : SK) : Int := two K 0 0 (kn K).toNat
theorem twi_le {K : SK} {a most c : Int} {n : Nat} (h : 0 ≤ most ∧ most ≤ 200) (hn : kn K ≤ 200) (hc : 0 ≤ c) (hc2 : c + n ≤ kn K) : 0 ≤ twi K a most c n ∧ twi K a most c n ≤ 200 := by
  induction n generalizing most c with
  | zero => exact h
  | succ n ih =>
    unfold twi
    have := al_le (r := kw K a) (s := kw K c) (fm := kf K) (m := kn K - c) (by omega)
    exact ih (by omega) (by omega) (by omega)
theorem x_longestTwin_i {b : Nat} {t : TS} {h : HP} {r9 : Option Nat → Int → Int → HP → Option (Int × HP)} {most a : Int} (ht : tGo t) (ha : 0 ≤ a) (ha2 : a < t.2 0 1) (hm : 0 ≤ most ∧ most ≤ 200) :
    b_X9_longestTwin_23 r9 (some b) most a (a + 1) (TH b t h) = r9 (some b) (twi (kOf (t.2 0)) a most (a + 1) (kn (kOf (t.2 0)) - (a + 1)).toNat) (a + 1) (TH b t h) := by
  have en : kn (kOf (t.2 0)) = t.2 0 1 := rfl
  have h1 := kOK_n ht.1.2
  rw [en] at h1 ⊢
  unfold b_X9_longestTwin_23
  refine fx_FU (bot := fun (_ : Option Nat) (_ _ _ : Int) (_ : HP) => (none : Option (Int × HP))) (body := c_X9_longestTwin_23 r9)
    (fun F (s : Int × Int) => F (some b) s.1 a s.2 (TH b t h)) (fun s => (a + 1 ≤ s.2 ∧ s.2 ≤ t.2 0 1) ∧ 0 ≤ s.1 ∧ s.1 ≤ 200) (fun s => (t.2 0 1 - s.2).toNat)
    (fun s v => v = r9 (some b) (twi (kOf (t.2 0)) a s.1 s.2 (t.2 0 1 - s.2).toNat) (a + 1) (TH b t h)) ?_ (most, a + 1) ⟨⟨by dsimp only; omega, by dsimp only; omega⟩, hm⟩ (by dsimp only; omega)
  rintro rec ⟨x, c⟩ ⟨⟨h3, h4⟩, h5⟩ ih
  dsimp only at h3 h4 h5 ih ⊢
  unfold c_X9_longestTwin_23
  by_cases g : t.2 0 1 ≤ c
  · simp (discharger := omega) only [th_R0, th_A0, Option.bind_some, if_pos, iLE_in]
    rw [show (t.2 0 1 - c).toNat = 0 by omega]
    rfl
  · unfold f_X9_textFrom
    simp (discharger := omega) only [th_R0, th_A0, Option.bind_some, if_pos, if_neg, iLE_in, hb_some, th_rcv]
    rw [x_alikeFrom ht.1.1 (by omega) (by omega) (by omega) (by omega) (by omega)]
    simp only [hb_some]
    have ea : (fun j => t.2 0 (16 + a + j)) = kw (kOf (t.2 0)) a := by rw [← kOf_tx]; rfl
    have ec : (fun j => t.2 0 (16 + c + j)) = kw (kOf (t.2 0)) c := by rw [← kOf_tx]; rfl
    rw [ea, ec]
    have hal := al_le (r := kw (kOf (t.2 0)) a) (s := kw (kOf (t.2 0)) c) (fm := t.2 0 0) (m := t.2 0 1 - c) (by omega)
    rw [x_max (by omega) (by omega)]
    simp only [hb_some]
    rw [show (t.2 0 1 - c).toNat = (t.2 0 1 - (c + 1)).toNat + 1 by omega]
    unfold twi
    exact ih (max x (al (kw (kOf (t.2 0)) a) (kw (kOf (t.2 0)) c) (t.2 0 0) (t.2 0 1 - c)), c + 1) ⟨⟨by dsimp only; omega, by dsimp only; omega⟩, by dsimp only; omega⟩ (by dsimp only; omega)
theorem o_longestTwin {b : Nat} {t : TS} {h : HP} (ht : tGo t) : ∃ t', f_X9_longestTwin b (TH b t h) = some (kTwin (kOf (t.2 0)), TH b t' h) ∧ tOb t t' 0 := by
  have e : (upN t.1 7 0, t.2) = thr t 0 := rfl
  have hg := tGo_thr (k := 0) ht
  have en : kn (kOf (t.2 0)) = t.2 0 1 := rfl
  have h1 := kOK_n ht.1.2
  rw [en] at h1
  unfold f_X9_longestTwin
  simp only [th_W7, Option.bind_some]
  rw [e]
  refine ⟨thr t 0, ?_, tOb_thr t 0⟩
  unfold kTwin b_X9_longestTwin_9
  have key := fx_FU (bot := fun (_ : Option Nat) (_ _ : Int) (_ : HP) => (none : Option (Int × HP))) (body := c_X9_longestTwin_9)
    (fun F (s : Int × Int) => F (some b) s.1 s.2 (TH b (thr t 0) h)) (fun s => (0 ≤ s.2 ∧ s.2 ≤ t.2 0 1) ∧ 0 ≤ s.1 ∧ s.1 ≤ 200) (fun s => (t.2 0 1 - s.2).toNat)
    (fun s v => v = some (two (kOf (t.2 0)) s.1 s.2 (t.2 0 1 - s.2).toNat, TH b (thr t 0) h)) ?_ (0, 0) ⟨⟨by dsimp only; omega, by dsimp only; omega⟩, by dsimp only; omega⟩ (by dsimp only; omega)
  · dsimp only at key
    rw [key, Int.sub_zero, en]
  · rintro rec ⟨x, a⟩ ⟨⟨h3, h4⟩, h5⟩ ih
    dsimp only at h3 h4 h5 ih ⊢
    unfold c_X9_longestTwin_9
    by_cases g : t.2 0 1 ≤ a
    · simp (discharger := omega) only [th_R0, th_A0, Option.bind_some, if_pos, iLE_in, thr_2]
      rw [show (t.2 0 1 - a).toNat = 0 by omega]
      rfl
    · simp (discharger := omega) only [th_R0, th_A0, Option.bind_some, if_pos, if_neg, iLE_in, thr_2]
      rw [x_longestTwin_i hg h3 (by rw [thr_2]; omega) h5]
      rw [show (t.2 0 1 - a).toNat = (t.2 0 1 - (a + 1)).toNat + 1 by omega]
      unfold two
      have hti := twi_le (K := kOf (t.2 0)) (a := a) (most := x) (c := a + 1) (n := (t.2 0 1 - (a + 1)).toNat) h5 (by rw [en]; omega) (by omega) (by rw [en]; omega)
      rw [thr_2, en]
      exact ih (twi (kOf (t.2 0)) a x (a + 1) (t.2 0 1 - (a + 1)).toNat, a + 1) ⟨⟨by dsimp only; omega, by dsimp only; omega⟩, hti⟩ (by dsimp only; omega)
/-- undo -/
theorem o_undo {b : Nat} {t : TS} {h : HP} (h0 : 0 ≤ t.1 6) (h8 : t.1 6 ≤ 8) : ∃ t', f_X9_undo b (TH b t h) = some (if t.1 6 = 0 then -1 else t.1 6 - 1, TH b t' h) ∧ (∀ j, j ≠ 6 → t'.1 j = upN t.1 7 0 j) ∧ (∀ j, j ≠ 0 → t'.2 j = t.2 j) ∧ t'.1 6 = (if t.1 6 = 0 then 0 else t.1 6 - 1) ∧ (if t.1 6 = 0 then t'.2 0 = t.2 0 else rEq (prow t (t.1 6 - 1)) (t'.2 0)) := by
  have e : (upN t.1 7 0, t.2) = thr t 0 := rfl
  have e6 : (thr t 0).1 6 = t.1 6 := thr_6
  unfold f_X9_undo
  simp only [th_W7, Option.bind_some]
  rw [e]
  simp (discharger := omega) only [th_I6, Option.bind_some, e6, iEQ_in]
  by_cases g : t.1 6 = 0
  · simp only [if_pos g]
    exact ⟨thr t 0, rfl, fun j _ => rfl, fun j _ => rfl, by rw [e6, g], rfl⟩
  · simp only [if_neg g]
    have w6 : upN (thr t 0).1 6 (t.1 6 - 1) 6 = t.1 6 - 1 := by simp [upN]
    simp only [th_W6, th_I6, th_R3, th_R0, Option.bind_some, w6]
    obtain ⟨t', p1, p2, p3, p4⟩ := x_lays_3_0 (b := b) (t := (upN (thr t 0).1 6 (t.1 6 - 1), (thr t 0).2)) (h := h) (at' := 576 * (t.1 6 - 1)) (into := 0) (by omega) (by omega) (by omega) (by omega)
    rw [show (b + 4 : Nat) = b + 4 from rfl] at p1
    rw [p1]
    simp only [hb_some, th_I6, Option.bind_some, p2, w6]
    refine ⟨t', rfl, fun j hj => by rw [p2]; dsimp only; rw [upN_ne hj]; rfl, p3, by rw [p2]; exact w6, fun i a c => ?_⟩
    rw [p4, if_pos (by omega), show 576 * (t.1 6 - 1) + (i - 0) = 576 * (t.1 6 - 1) + i by omega]
    rfl
