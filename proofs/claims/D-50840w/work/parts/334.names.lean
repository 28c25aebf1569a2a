/-! STAGE 2D: the reference: names. -/
set_option maxRecDepth 100000
/-- the token is the name of pattern p -/
def isN (t : TS) (p : Int) : Bool := decide (t.2 0 (216 + 30 * p + 1) = t.1 14 - t.1 13) && (fnd (fun i => decide (t.2 0 (216 + 30 * p + 2 + i) ≠ t.2 9 (t.1 13 + i))) 0 (t.1 14 - t.1 13).toNat).isNone
theorem x_isName {b : Nat} {t : TS} {h : HP} {p : Int} (ht : tTo t) (hi : tIn t) (hp : 0 ≤ p) (hp2 : p < 8) (hn : t.2 0 (216 + 30 * p + 1) ≤ 8) : f_X9_isName b p (TH b t h) = some (bZ (isN t p), TH b t h) := by
  obtain ⟨hB, h13, h14, h12, h17, h15⟩ := ht
  have h600 := hB.1
  have e1 := hi (216 + 30 * p + 1) (by omega)
  unfold f_X9_isName f_X9_length isN
  simp (discharger := omega) only [th_R0, th_A0, Option.bind_some, if_pos, th_rcv, th_I14, th_I13, hb_some]
  rw [iEQ_in (by omega) (by omega)]
  by_cases g : t.2 0 (216 + 30 * p + 1) = t.1 14 - t.1 13
  · rw [if_pos g, decide_eq_true g, Bool.true_and]
    unfold b_X9_isName_28
    have key := fx_FU (bot := fun (_ : Option Nat) (_ _ : Int) (_ : HP) => (none : Option (Int × HP))) (body := c_X9_isName_28)
      (fun F (k : Int) => F (some b) (216 + 30 * p + 1) k (TH b t h)) (fun k => 0 ≤ k ∧ k ≤ t.1 14 - t.1 13) (fun k => (t.1 14 - t.1 13 - k).toNat)
      (fun k v => v = some (bZ (fnd (fun i => decide (t.2 0 (216 + 30 * p + 2 + i) ≠ t.2 9 (t.1 13 + i))) k (t.1 14 - t.1 13 - k).toNat).isNone, TH b t h)) ?_ 0 ⟨by omega, by omega⟩ (by omega)
    · rw [key, Int.sub_zero]
    · rintro rec k ⟨h5, h6⟩ ih
      unfold c_X9_isName_28 f_X9_length
      simp only [th_rcv, th_I14, th_I13, Option.bind_some, hb_some]
      rw [iLE_in (by omega) (by omega)]
      by_cases g1 : t.1 14 - t.1 13 ≤ k
      · rw [if_pos g1, show (t.1 14 - t.1 13 - k).toNat = 0 by omega]
        rfl
      · have hb9 := hB.2 (t.1 13 + k) (by omega) (by omega)
        have ei := hi (216 + 30 * p + 1 + 1 + k) (by omega)
        rw [if_neg g1]
        simp (discharger := omega) only [th_R0, th_A0, th_R11, th_I13, th_A9, Option.bind_some, if_pos]
        rw [iEQ_in (by omega) (by omega), show (t.1 14 - t.1 13 - k).toNat = (t.1 14 - t.1 13 - (k + 1)).toNat + 1 by omega]
        unfold fnd
        rw [show 216 + 30 * p + 2 + k = 216 + 30 * p + 1 + 1 + k by omega]
        by_cases g2 : t.2 0 (216 + 30 * p + 1 + 1 + k) = t.2 9 (t.1 13 + k)
        · have := ih (k + 1) ⟨by omega, by omega⟩ (by omega)
          simp only [g2, if_true, ne_eq, not_true_eq_false, decide_false, Bool.false_eq_true, if_false]
          exact this
        · simp [g2, bZ]
  · rw [if_neg g, decide_eq_false g]; rfl
/-- the pattern of that name; -1 without one -/
def fNm (t : TS) : Int := match fnd (fun p => isN t p) 0 (t.2 0 2).toNat with
  | some p => p
  | none => -1
theorem x_found {b : Nat} {t : TS} {h : HP} (ht : tTo t) (hi : tIn t) (h2 : 0 ≤ t.2 0 2 ∧ t.2 0 2 ≤ 8) (hn : nOK (t.2 0)) : f_X9_found b (TH b t h) = some (fNm t, TH b t h) := by
  unfold f_X9_found b_X9_found_2
  have key := fx_FU (bot := fun (_ : Option Nat) (_ : Int) (_ : HP) => (none : Option (Int × HP))) (body := c_X9_found_2)
    (fun F (k : Int) => F (some b) k (TH b t h)) (fun k => 0 ≤ k ∧ k ≤ t.2 0 2) (fun k => (t.2 0 2 - k).toNat)
    (fun k v => v = some ((match fnd (fun p => isN t p) k (t.2 0 2 - k).toNat with
      | some p => p
      | none => -1), TH b t h)) ?_ 0 ⟨by omega, by omega⟩ (by omega)
  · rw [key, Int.sub_zero]; rfl
  · rintro rec k ⟨h5, h6⟩ ih
    unfold c_X9_found_2
    simp (discharger := omega) only [th_R0, th_A0, Option.bind_some, if_pos, iLE_in]
    by_cases g1 : t.2 0 2 ≤ k
    · rw [if_pos g1, show (t.2 0 2 - k).toNat = 0 by omega]
      rfl
    · rw [if_neg g1]
      simp only [th_rcv, Option.bind_some]
      rw [x_isName ht hi h5 (by omega) (hn k h5 (by omega)).2]
      simp only [hb_some, iEQ_bZ]
      rw [show (t.2 0 2 - k).toNat = (t.2 0 2 - (k + 1)).toNat + 1 by omega]
      unfold fnd
      by_cases g2 : isN t k = true
      · simp only [g2, if_true]
      · have := ih (k + 1) ⟨by omega, by omega⟩ (by omega)
        simp only [g2, if_false]
        exact this
