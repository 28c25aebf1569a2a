/-! STAGE 2r: the reference: further public changes. -/
set_option maxRecDepth 100000
theorem x_failsP {b : Nat} {t : TS} {h : HP} {k : Int} (hk : k ≠ 0) (hk2 : inR k) (h0 : t.1 7 = 0) : f_X9_fails b 1 k (TH b t h) = some (1, TH b (thr t k) h) ∧ f_X9_fails b 0 k (TH b t h) = some (0, TH b t h) := by
  have f1 := x_fails (b := b) (t := t) (h := h) (z := true) hk hk2 h0
  have f0 := x_fails (b := b) (t := t) (h := h) (z := false) hk hk2 h0
  simp only [bZ, if_true, Bool.false_eq_true, if_false] at f1 f0
  exact ⟨f1, f0⟩
theorem i10 {α : Type} {x y : Option α} : iEQ 1 0 x y = y := by simp [iEQ]
theorem i00 {α : Type} {x y : Option α} : iEQ 0 0 x y = x := by simp [iEQ]
theorem y_unmark {b : Nat} {t : TS} {h : HP} {k : Int} (ht : tGo t) (h0 : 0 ≤ t.1 6) (h8 : t.1 6 ≤ 8) (hq : inR k) :
    if 0 ≤ k ∧ k ≤ 59 then ∃ t', f_X9_unmark b k (TH b t h) = some ((kUnm (kOf (t.2 0)) k).1, TH b t' h) ∧ tChP (thr t 0) t' (kUnm (kOf (t.2 0)) k) else f_X9_unmark b k (TH b t h) = some (0, TH b (thr t 1) h) := by
  have e : (upN t.1 7 0, t.2) = thr t 0 := rfl
  obtain ⟨f1, f0⟩ := x_failsP (b := b) (t := thr t 0) (h := h) (k := 1) (by omega) (by omega) thr_7
  unfold f_X9_unmark b_X9_unmark_21
  simp (discharger := omega) only [th_rcv, th_R0, th_R1, th_R2, th_R3, th_R4, th_R5, th_I6, th_W6, th_I7, th_W7, th_R8, th_R9, th_R10, th_R11, th_I12, th_W12, th_I13, th_W13, th_I14, th_W14, th_I15, th_W15, th_I16, th_W16, th_I17, th_W17, th_I18, th_W18, th_I19, th_W19, th_I20, th_W20, th_I21, th_W21, th_R22, th_R23, th_R24, th_R25, th_R26, th_R27, th_R28, th_I29, th_W29, th_I30, th_W30, th_I31, th_W31, th_R32, th_I33, th_W33, th_A0, th_S0, th_L0, th_A1, th_S1, th_L1, th_A2, th_S2, th_L2, th_A3, th_S3, th_L3, th_A4, th_S4, th_L4, th_A5, th_S5, th_L5, th_A6, th_S6, th_L6, th_A7, th_S7, th_L7, th_A8, th_S8, th_L8, th_A9, th_S9, th_L9, th_A10, th_S10, th_L10, th_A11, th_S11, th_L11, th_A12, th_S12, th_L12, th_A13, th_S13, th_L13, th_A14, th_S14, th_L14, th_A15, th_S15, th_L15, th_A16, th_S16, th_L16, th_A17, th_S17, th_L17, hb_some, hbx_inr, hbx_inl, Option.bind_some, iLT_in, iLE_in, iEQ_in, iIN_in, rtZ_in, rtC_in, rtB_in, if_pos]
  rw [e, x_in hq (by omega) (by omega)]
  simp only [hb_some, iEQ_bZ]
  by_cases g1 : 0 ≤ k ∧ k ≤ 59
  · simp only [g1, and_self, decide_true, if_true, th_rcv, Option.bind_some, f0, hb_some, i00]
    refine y_tail (op := fun b h => f_X9_unmarkNow b k h) (tGo_thr ht) (by rw [thr_6]; exact h0) (by rw [thr_6]; exact h8) ?_ (fun u e1 hu => by
      have e1' : u.2 0 = t.2 0 := e1
      have := y_unmarkNow (b := b) (h := h) hu (k := k) g1.1 (by omega)
      rw [e1'] at this
      exact this)
    have h60 : (km (kOf (t.2 0))).length ≤ 60 := ht.1.2.2.2.2.1
    unfold kUnm
    by_cases e1 : ((km (kOf (t.2 0))).length : Int) ≤ k
    · rw [if_pos e1]; exact ⟨by omega, by omega⟩
    · rw [if_neg e1]; exact ⟨by dsimp only; omega, by dsimp only; omega⟩
  · simp only [g1, decide_false, Bool.false_eq_true, if_false, th_rcv, Option.bind_some, f1, hb_some, i10]
    rw [thr_thr]
theorem y_setFirm {b : Nat} {t : TS} {h : HP} {k : Int} (ht : tGo t) (h0 : 0 ≤ t.1 6) (h8 : t.1 6 ≤ 8) (hq : inR k) :
    if 0 ≤ k ∧ k ≤ 26 then ∃ t', f_X9_setFirm b k (TH b t h) = some ((kFrm (kOf (t.2 0)) k).1, TH b t' h) ∧ tChP (thr t 0) t' (kFrm (kOf (t.2 0)) k) else f_X9_setFirm b k (TH b t h) = some (0, TH b (thr t 1) h) := by
  have e : (upN t.1 7 0, t.2) = thr t 0 := rfl
  obtain ⟨f1, f0⟩ := x_failsP (b := b) (t := thr t 0) (h := h) (k := 1) (by omega) (by omega) thr_7
  unfold f_X9_setFirm b_X9_setFirm_21
  simp (discharger := omega) only [th_rcv, th_R0, th_R1, th_R2, th_R3, th_R4, th_R5, th_I6, th_W6, th_I7, th_W7, th_R8, th_R9, th_R10, th_R11, th_I12, th_W12, th_I13, th_W13, th_I14, th_W14, th_I15, th_W15, th_I16, th_W16, th_I17, th_W17, th_I18, th_W18, th_I19, th_W19, th_I20, th_W20, th_I21, th_W21, th_R22, th_R23, th_R24, th_R25, th_R26, th_R27, th_R28, th_I29, th_W29, th_I30, th_W30, th_I31, th_W31, th_R32, th_I33, th_W33, th_A0, th_S0, th_L0, th_A1, th_S1, th_L1, th_A2, th_S2, th_L2, th_A3, th_S3, th_L3, th_A4, th_S4, th_L4, th_A5, th_S5, th_L5, th_A6, th_S6, th_L6, th_A7, th_S7, th_L7, th_A8, th_S8, th_L8, th_A9, th_S9, th_L9, th_A10, th_S10, th_L10, th_A11, th_S11, th_L11, th_A12, th_S12, th_L12, th_A13, th_S13, th_L13, th_A14, th_S14, th_L14, th_A15, th_S15, th_L15, th_A16, th_S16, th_L16, th_A17, th_S17, th_L17, hb_some, hbx_inr, hbx_inl, Option.bind_some, iLT_in, iLE_in, iEQ_in, iIN_in, rtZ_in, rtC_in, rtB_in, if_pos]
  rw [e, x_in hq (by omega) (by omega)]
  simp only [hb_some, iEQ_bZ]
  by_cases g1 : 0 ≤ k ∧ k ≤ 26
  · simp only [g1, and_self, decide_true, if_true, th_rcv, Option.bind_some, f0, hb_some, i00]
    refine y_tail (op := fun b h => f_X9_firmNow b k h) (tGo_thr ht) (by rw [thr_6]; exact h0) (by rw [thr_6]; exact h8) ?_ (fun u e1 hu => by
      have e1' : u.2 0 = t.2 0 := e1
      have := y_firmNow (b := b) (h := h) hu (f := k) g1.1 g1.2
      rw [e1'] at this
      exact this)
    have : 0 ≤ t.2 0 0 ∧ t.2 0 0 ≤ 26 := ht.1.2.2.1
    exact ⟨by show -2147483648 ≤ t.2 0 0; omega, by show t.2 0 0 ≤ 2147483647; omega⟩
  · simp only [g1, decide_false, Bool.false_eq_true, if_false, th_rcv, Option.bind_some, f1, hb_some, i10]
    rw [thr_thr]
theorem y_swap {b : Nat} {t : TS} {h : HP} {q m x y : Int} (ht : tGo t) (h0 : 0 ≤ t.1 6) (h8 : t.1 6 ≤ 8) (hq : inR q) (hm : inR m) (hx : inR x) (hy : inR y) :
    if (0 ≤ q ∧ q ≤ 200) ∧ (1 ≤ m ∧ m ≤ 200) ∧ (0 ≤ x ∧ x ≤ 25) ∧ (0 ≤ y ∧ y ≤ 25) ∧ x ≠ y then ∃ t', f_X9_swap b q m x y (TH b t h) = some ((kSwp (kOf (t.2 0)) q m x y).1, TH b t' h) ∧ tChP (thr t 0) t' (kSwp (kOf (t.2 0)) q m x y) else f_X9_swap b q m x y (TH b t h) = some (0, TH b (thr t 1) h) := by
  have e : (upN t.1 7 0, t.2) = thr t 0 := rfl
  obtain ⟨f1, f0⟩ := x_failsP (b := b) (t := thr t 0) (h := h) (k := 1) (by omega) (by omega) thr_7
  unfold f_X9_swap b_X9_swap_31 b_X9_swap_69 b_X9_swap_76
  simp (discharger := omega) only [th_rcv, th_R0, th_R1, th_R2, th_R3, th_R4, th_R5, th_I6, th_W6, th_I7, th_W7, th_R8, th_R9, th_R10, th_R11, th_I12, th_W12, th_I13, th_W13, th_I14, th_W14, th_I15, th_W15, th_I16, th_W16, th_I17, th_W17, th_I18, th_W18, th_I19, th_W19, th_I20, th_W20, th_I21, th_W21, th_R22, th_R23, th_R24, th_R25, th_R26, th_R27, th_R28, th_I29, th_W29, th_I30, th_W30, th_I31, th_W31, th_R32, th_I33, th_W33, th_A0, th_S0, th_L0, th_A1, th_S1, th_L1, th_A2, th_S2, th_L2, th_A3, th_S3, th_L3, th_A4, th_S4, th_L4, th_A5, th_S5, th_L5, th_A6, th_S6, th_L6, th_A7, th_S7, th_L7, th_A8, th_S8, th_L8, th_A9, th_S9, th_L9, th_A10, th_S10, th_L10, th_A11, th_S11, th_L11, th_A12, th_S12, th_L12, th_A13, th_S13, th_L13, th_A14, th_S14, th_L14, th_A15, th_S15, th_L15, th_A16, th_S16, th_L16, th_A17, th_S17, th_L17, hb_some, hbx_inr, hbx_inl, Option.bind_some, iLT_in, iLE_in, iEQ_in, iIN_in, rtZ_in, rtC_in, rtB_in, if_pos]
  rw [e, x_noOne hq (by omega) (by omega) thr_7]
  simp only [hb_some, iEQ_bZ]
  by_cases g1 : 0 ≤ q ∧ q ≤ 200
  · simp only [g1, and_self, decide_true, Bool.not_true, Bool.false_eq_true, if_false, if_true, true_and]
    rw [x_in hm (by omega) (by omega)]
    simp only [hb_some, iEQ_bZ]
    by_cases g2 : 1 ≤ m ∧ m ≤ 200
    · simp only [g2, and_self, decide_true, if_true, th_rcv, Option.bind_some, f0, hb_some, i00, true_and]
      rw [x_noLetter hx (by omega) (by omega) thr_7]
      simp only [hb_some, iEQ_bZ]
      by_cases g3 : 0 ≤ x ∧ x ≤ 25
      · simp only [g3, and_self, decide_true, Bool.not_true, Bool.false_eq_true, if_false, if_true, th_rcv, Option.bind_some, true_and]
        rw [x_noLetter hy (by omega) (by omega) thr_7]
        simp only [hb_some, iEQ_bZ]
        by_cases g4 : 0 ≤ y ∧ y ≤ 25
        · simp only [g4, and_self, decide_true, Bool.not_true, Bool.false_eq_true, if_false, if_true, th_rcv, Option.bind_some, true_and]
          by_cases g5 : x = y
          · subst g5
            simp (discharger := omega) only [iEQ_in, ne_eq, not_true_eq_false, if_false, if_true, f1, hb_some, i10]
            rw [thr_thr]
            rfl
          · simp (discharger := omega) only [iEQ_in, g5, ne_eq, not_false_eq_true, if_false, if_true, f0, hb_some, i00, th_rcv, Option.bind_some]
            refine y_tail (op := fun b h => f_X9_swapNow b q m x y h) (tGo_thr ht) (by rw [thr_6]; exact h0) (by rw [thr_6]; exact h8) ?_ (fun u e1 hu => by
              have e1' : u.2 0 = t.2 0 := e1
              have := y_swapNow (b := b) (h := h) hu (q := q) (m := m) (x := x) (y := y) g1.1 (by omega) g2.1 g2.2 (by omega) (by omega)
              rw [e1'] at this
              exact this)
            have hc := cnt_le (p := fun k => decide (kt (kOf (t.2 0)) k = x ∨ kt (kOf (t.2 0)) k = y)) (i := q) (n := m.toNat)
            unfold kSwp kSwn
            by_cases e1 : kn (kOf (t.2 0)) ≤ q ∨ kn (kOf (t.2 0)) < q + m
            · rw [if_pos e1]; exact ⟨by omega, by omega⟩
            · rw [if_neg e1]; exact ⟨by dsimp only; omega, by dsimp only; omega⟩
        · simp only [g4, decide_false, Bool.not_false, if_true, if_false, false_and]
          rw [thr_thr]
      · simp only [g3, decide_false, Bool.not_false, if_true, if_false, false_and]
        rw [thr_thr]
    · simp only [g2, decide_false, Bool.false_eq_true, if_false, th_rcv, Option.bind_some, f1, hb_some, i10, false_and]
      rw [thr_thr]
  · simp only [g1, decide_false, Bool.not_false, if_true, if_false, false_and]
    rw [thr_thr]
theorem y_take {b : Nat} {t : TS} {h : HP} {p q m : Int} (ht : tGo t) (h0 : 0 ≤ t.1 6) (h8 : t.1 6 ≤ 8) (hp : inR p) (hq : inR q) (hm : inR m) :
    if 0 ≤ p ∧ p < t.2 0 2 then (if (0 ≤ q ∧ q ≤ 200) ∧ 1 ≤ m ∧ m ≤ 20 then ∃ t', f_X9_take b p q m (TH b t h) = some ((kTak (kOf (t.2 0)) p q m).1, TH b t' h) ∧ tChP (thr t 0) t' (kTak (kOf (t.2 0)) p q m) else f_X9_take b p q m (TH b t h) = some (0, TH b (thr t 2) h)) else f_X9_take b p q m (TH b t h) = some (0, TH b (thr t 1) h) := by
  have e : (upN t.1 7 0, t.2) = thr t 0 := rfl
  obtain ⟨f1, f0⟩ := x_failsP (b := b) (t := thr t 0) (h := h) (k := 2) (by omega) (by omega) thr_7
  unfold f_X9_take b_X9_take_38 b_X9_take_45
  simp (discharger := omega) only [th_rcv, th_R0, th_R1, th_R2, th_R3, th_R4, th_R5, th_I6, th_W6, th_I7, th_W7, th_R8, th_R9, th_R10, th_R11, th_I12, th_W12, th_I13, th_W13, th_I14, th_W14, th_I15, th_W15, th_I16, th_W16, th_I17, th_W17, th_I18, th_W18, th_I19, th_W19, th_I20, th_W20, th_I21, th_W21, th_R22, th_R23, th_R24, th_R25, th_R26, th_R27, th_R28, th_I29, th_W29, th_I30, th_W30, th_I31, th_W31, th_R32, th_I33, th_W33, th_A0, th_S0, th_L0, th_A1, th_S1, th_L1, th_A2, th_S2, th_L2, th_A3, th_S3, th_L3, th_A4, th_S4, th_L4, th_A5, th_S5, th_L5, th_A6, th_S6, th_L6, th_A7, th_S7, th_L7, th_A8, th_S8, th_L8, th_A9, th_S9, th_L9, th_A10, th_S10, th_L10, th_A11, th_S11, th_L11, th_A12, th_S12, th_L12, th_A13, th_S13, th_L13, th_A14, th_S14, th_L14, th_A15, th_S15, th_L15, th_A16, th_S16, th_L16, th_A17, th_S17, th_L17, hb_some, hbx_inr, hbx_inl, Option.bind_some, iLT_in, iLE_in, iEQ_in, iIN_in, rtZ_in, rtC_in, rtB_in, if_pos]
  rw [e, x_noPattern (tPl (tGo_thr ht)) hp thr_7]
  simp only [hb_some, iEQ_bZ, thr_2]
  by_cases g1 : 0 ≤ p ∧ p < t.2 0 2
  · simp only [g1, and_self, decide_true, Bool.not_true, Bool.false_eq_true, if_false, if_true, th_rcv, Option.bind_some]
    rw [x_noOne hq (by omega) (by omega) thr_7]
    simp only [hb_some, iEQ_bZ]
    by_cases g2 : 0 ≤ q ∧ q ≤ 200
    · simp only [g2, and_self, decide_true, Bool.not_true, Bool.false_eq_true, if_false, if_true, true_and]
      rw [x_in hm (by omega) (by omega)]
      simp only [hb_some, iEQ_bZ]
      by_cases g3 : 1 ≤ m ∧ m ≤ 20
      · simp only [g3, and_self, decide_true, if_true, th_rcv, Option.bind_some, f0, hb_some, i00]
        refine y_tail (op := fun b h => f_X9_takeNow b p q m h) (tGo_thr ht) (by rw [thr_6]; exact h0) (by rw [thr_6]; exact h8) ?_ (fun u e1 hu => by
          have e1' : u.2 0 = t.2 0 := e1
          have := y_takeNow (b := b) (h := h) hu (p := p) (q := q) (m := m) g1.1 (by rw [e1']; exact g1.2) g2.1 (by omega) g3.1 g3.2
          rw [e1'] at this
          exact this)
        have hn := kOK_n ht.1.2
        unfold kTak
        by_cases e1 : kn (kOf (t.2 0)) ≤ q ∨ kn (kOf (t.2 0)) < q + m
        · rw [if_pos e1]; exact ⟨by omega, by omega⟩
        · rw [if_neg e1]
          have hc := cnt_le (p := fun k => kTh (kCl (kTk1 (kOf (t.2 0)) p q m)) p k) (i := 0) (n := (kn (kCl (kTk1 (kOf (t.2 0)) p q m))).toNat)
          have e3 : kn (kCl (kTk1 (kOf (t.2 0)) p q m)) = kn (kOf (t.2 0)) := rfl
          rw [e3] at hc
          unfold kHits
          rw [e3]
          exact ⟨by dsimp only; omega, by dsimp only; omega⟩
      · simp only [g3, decide_false, Bool.false_eq_true, if_false, th_rcv, Option.bind_some, f1, hb_some, i10]
        rw [thr_thr]
    · simp only [g2, decide_false, Bool.not_false, if_true, if_false, false_and]
      rw [thr_thr]
  · simp only [g1, decide_false, Bool.not_false, if_true, if_false]
    rw [thr_thr]
