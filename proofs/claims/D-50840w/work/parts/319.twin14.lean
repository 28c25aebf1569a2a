/-! STAGE 2q: the reference: public changes. -/
set_option maxRecDepth 100000
/-- what a public change leaves -/
def tChP (t t' : TS) (z : Int × SK) : Prop := (∀ j, j ≠ 6 → t'.1 j = t.1 j) ∧ (∀ j, j ≠ 0 → j ≠ 2 → j ≠ 3 → j ≠ 6 → j ≠ 7 → j ≠ 8 → t'.2 j = t.2 j) ∧ tGo t' ∧ kEq z.2 (kOf (t'.2 0)) ∧ nEq (t.2 0) (t'.2 0) ∧
  (z.1 < 0 → t'.1 6 = t.1 6 ∧ t'.2 3 = t.2 3) ∧ (0 ≤ z.1 → t'.1 6 = (if t.1 6 = 8 then 8 else t.1 6 + 1) ∧ rEq (t.2 0) (prow t' (t'.1 6 - 1)) ∧ ∀ j, 0 ≤ j → j < t'.1 6 - 1 → rEq (prow t (if t.1 6 = 8 then j + 1 else j)) (prow t' j))
theorem y_tail {b : Nat} {t : TS} {h : HP} {z : Int × SK} {op : Nat → HP → Option (Int × HP)} (ht : tGo t) (h0 : 0 ≤ t.1 6) (h8 : t.1 6 ≤ 8) (hz : inR z.1) (hop : ∀ u : TS, u.2 0 = t.2 0 → tGo u → tCh b u h (op b (TH b u h)) z) :
    ∃ t', (hb (f_X9_holds b (TH b t h)) fun _ h9 => (rcv h9 (some b) [7]).bind fun b14 => hb (op b14 h9) fun v12 h13 => (rcv h13 (some b) [7]).bind fun b18 => hb (f_X9_recorded b18 v12 h13) fun v16 h17 => some (v16, h17)) = some (z.1, TH b t' h) ∧ tChP t t' z := by
  obtain ⟨u, p1, p2, p3, p4⟩ := x_holds (b := b) (t := t) (h := h)
  have e0 : u.2 0 = t.2 0 := p3 0 (by omega)
  have hu : tGo u := by
    unfold tGo tGd tIn at *
    rw [e0]; exact ht
  obtain ⟨v, q1, q2, q3, q4, q5⟩ := hop u e0 hu
  rw [p1]
  simp (discharger := omega) only [th_rcv, th_R0, th_R1, th_R2, th_R3, th_R4, th_R5, th_I6, th_W6, th_I7, th_W7, th_R8, th_R9, th_R10, th_R11, th_I12, th_W12, th_I13, th_W13, th_I14, th_W14, th_I15, th_W15, th_I16, th_W16, th_I17, th_W17, th_I18, th_W18, th_I19, th_W19, th_I20, th_W20, th_I21, th_W21, th_R22, th_R23, th_R24, th_R25, th_R26, th_R27, th_R28, th_I29, th_W29, th_I30, th_W30, th_I31, th_W31, th_R32, th_I33, th_W33, th_A0, th_S0, th_L0, th_A1, th_S1, th_L1, th_A2, th_S2, th_L2, th_A3, th_S3, th_L3, th_A4, th_S4, th_L4, th_A5, th_S5, th_L5, th_A6, th_S6, th_L6, th_A7, th_S7, th_L7, th_A8, th_S8, th_L8, th_A9, th_S9, th_L9, th_A10, th_S10, th_L10, th_A11, th_S11, th_L11, th_A12, th_S12, th_L12, th_A13, th_S13, th_L13, th_A14, th_S14, th_L14, th_A15, th_S15, th_L15, th_A16, th_S16, th_L16, th_A17, th_S17, th_L17, hb_some, hbx_inr, hbx_inl, Option.bind_some, iLT_in, iLE_in, iEQ_in, iIN_in, rtZ_in, rtC_in, rtB_in, if_pos, q1]
  have v6 : v.1 6 = t.1 6 := by rw [q2.1, p2]
  have vr : ∀ j, prow v j = prow t j := by
    intro j
    unfold prow
    rw [q2.2 3 (by omega) (by omega) (by omega) (by omega), p3 3 (by omega)]
  have v2 : rEq (t.2 0) (v.2 2) := by rw [q2.2 2 (by omega) (by omega) (by omega) (by omega)]; exact p4
  rw [e0] at q5
  unfold f_X9_recorded b_X9_recorded_12
  by_cases g : z.1 < 0
  · simp (discharger := omega) only [th_rcv, th_R0, th_R1, th_R2, th_R3, th_R4, th_R5, th_I6, th_W6, th_I7, th_W7, th_R8, th_R9, th_R10, th_R11, th_I12, th_W12, th_I13, th_W13, th_I14, th_W14, th_I15, th_W15, th_I16, th_W16, th_I17, th_W17, th_I18, th_W18, th_I19, th_W19, th_I20, th_W20, th_I21, th_W21, th_R22, th_R23, th_R24, th_R25, th_R26, th_R27, th_R28, th_I29, th_W29, th_I30, th_W30, th_I31, th_W31, th_R32, th_I33, th_W33, th_A0, th_S0, th_L0, th_A1, th_S1, th_L1, th_A2, th_S2, th_L2, th_A3, th_S3, th_L3, th_A4, th_S4, th_L4, th_A5, th_S5, th_L5, th_A6, th_S6, th_L6, th_A7, th_S7, th_L7, th_A8, th_S8, th_L8, th_A9, th_S9, th_L9, th_A10, th_S10, th_L10, th_A11, th_S11, th_L11, th_A12, th_S12, th_L12, th_A13, th_S13, th_L13, th_A14, th_S14, th_L14, th_A15, th_S15, th_L15, th_A16, th_S16, th_L16, th_A17, th_S17, th_L17, hb_some, hbx_inr, hbx_inl, Option.bind_some, iLT_in, iLE_in, iEQ_in, iIN_in, rtZ_in, rtC_in, rtB_in, if_pos]
    refine ⟨v, rfl, fun j _ => by rw [q2.1, p2], fun j a1 a2 a3 a4 a5 a6 => by rw [q2.2 j a1 a4 a5 a6, p3 j a2], q3, q4, q5, fun _ => ⟨v6, by rw [q2.2 3 (by omega) (by omega) (by omega) (by omega), p3 3 (by omega)]⟩, fun a => absurd a (by omega)⟩
  · obtain ⟨w, r1, r2, r3, r4, r5, r6⟩ := x_remembers_2 (b := b) (t := v) (h := h) (by rw [v6]; exact h0) (by rw [v6]; exact h8)
    simp (discharger := omega) only [th_rcv, th_R0, th_R1, th_R2, th_R3, th_R4, th_R5, th_I6, th_W6, th_I7, th_W7, th_R8, th_R9, th_R10, th_R11, th_I12, th_W12, th_I13, th_W13, th_I14, th_W14, th_I15, th_W15, th_I16, th_W16, th_I17, th_W17, th_I18, th_W18, th_I19, th_W19, th_I20, th_W20, th_I21, th_W21, th_R22, th_R23, th_R24, th_R25, th_R26, th_R27, th_R28, th_I29, th_W29, th_I30, th_W30, th_I31, th_W31, th_R32, th_I33, th_W33, th_A0, th_S0, th_L0, th_A1, th_S1, th_L1, th_A2, th_S2, th_L2, th_A3, th_S3, th_L3, th_A4, th_S4, th_L4, th_A5, th_S5, th_L5, th_A6, th_S6, th_L6, th_A7, th_S7, th_L7, th_A8, th_S8, th_L8, th_A9, th_S9, th_L9, th_A10, th_S10, th_L10, th_A11, th_S11, th_L11, th_A12, th_S12, th_L12, th_A13, th_S13, th_L13, th_A14, th_S14, th_L14, th_A15, th_S15, th_L15, th_A16, th_S16, th_L16, th_A17, th_S17, th_L17, hb_some, hbx_inr, hbx_inl, Option.bind_some, iLT_in, iLE_in, iEQ_in, iIN_in, rtZ_in, rtC_in, rtB_in, if_pos, if_neg, r1]
    have w0 : w.2 0 = v.2 0 := r3 0 (by omega)
    refine ⟨w, rfl, fun j hj => by rw [r2 j hj, q2.1, p2], fun j a1 a2 a3 a4 a5 a6 => by rw [r3 j a3, q2.2 j a1 a4 a5 a6, p3 j a2], ?_, by rw [w0]; exact q4, by rw [w0]; exact q5, fun a => absurd a g, fun _ => ⟨by rw [r4, v6], fun i a c => by rw [r5 i a c]; exact v2 i a c, fun j a c => ?_⟩⟩
    · unfold tGo tGd tIn at *
      rw [w0]; exact q3
    · have := r6 j a c
      rw [v6, vr] at this
      exact this
theorem tGo_thr {t : TS} {k : Int} (h : tGo t) : tGo (thr t k) := h
theorem thr_6 {t : TS} {k : Int} : (thr t k).1 6 = t.1 6 := by simp [thr, upN]
theorem kOK_n {K : SK} (hk : kOK K) : 1 ≤ kn K ∧ kn K ≤ 200 := hk.1
theorem kPut_in {K : SK} (hk : kOK K) {q c : Int} (hq : 0 ≤ q) : inR (kPut K q c).1 := by
  unfold kPut
  by_cases g : kn K ≤ q
  · rw [if_pos g]; exact ⟨by omega, by omega⟩
  · rw [if_neg g]
    have := hk.2.2.2.2.1 q hq (by omega)
    exact ⟨by show -2147483648 ≤ kt K q; omega, by show kt K q ≤ 2147483647; omega⟩
theorem y_put {b : Nat} {t : TS} {h : HP} {q c : Int} (ht : tGo t) (h0 : 0 ≤ t.1 6) (h8 : t.1 6 ≤ 8) (hq : inR q) (hc : inR c) :
    if (0 ≤ q ∧ q ≤ 200) ∧ 0 ≤ c ∧ c ≤ 25 then ∃ t', f_X9_put b q c (TH b t h) = some ((kPut (kOf (t.2 0)) q c).1, TH b t' h) ∧ tChP (thr t 0) t' (kPut (kOf (t.2 0)) q c) else f_X9_put b q c (TH b t h) = some (0, TH b (thr t 1) h) := by
  unfold f_X9_put b_X9_put_23
  have e : (upN t.1 7 0, t.2) = thr t 0 := rfl
  simp (discharger := omega) only [th_rcv, th_R0, th_R1, th_R2, th_R3, th_R4, th_R5, th_I6, th_W6, th_I7, th_W7, th_R8, th_R9, th_R10, th_R11, th_I12, th_W12, th_I13, th_W13, th_I14, th_W14, th_I15, th_W15, th_I16, th_W16, th_I17, th_W17, th_I18, th_W18, th_I19, th_W19, th_I20, th_W20, th_I21, th_W21, th_R22, th_R23, th_R24, th_R25, th_R26, th_R27, th_R28, th_I29, th_W29, th_I30, th_W30, th_I31, th_W31, th_R32, th_I33, th_W33, th_A0, th_S0, th_L0, th_A1, th_S1, th_L1, th_A2, th_S2, th_L2, th_A3, th_S3, th_L3, th_A4, th_S4, th_L4, th_A5, th_S5, th_L5, th_A6, th_S6, th_L6, th_A7, th_S7, th_L7, th_A8, th_S8, th_L8, th_A9, th_S9, th_L9, th_A10, th_S10, th_L10, th_A11, th_S11, th_L11, th_A12, th_S12, th_L12, th_A13, th_S13, th_L13, th_A14, th_S14, th_L14, th_A15, th_S15, th_L15, th_A16, th_S16, th_L16, th_A17, th_S17, th_L17, hb_some, hbx_inr, hbx_inl, Option.bind_some, iLT_in, iLE_in, iEQ_in, iIN_in, rtZ_in, rtC_in, rtB_in, if_pos]
  rw [e, x_noOne hq (by omega) (by omega) thr_7]
  simp only [hb_some, iEQ_bZ]
  by_cases g1 : 0 ≤ q ∧ q ≤ 200
  · simp only [g1, and_self, decide_true, Bool.not_true, Bool.false_eq_true, if_false, if_true, th_rcv, Option.bind_some, true_and]
    rw [x_noLetter hc (by omega) (by omega) thr_7]
    simp only [hb_some, iEQ_bZ]
    by_cases g2 : 0 ≤ c ∧ c ≤ 25
    · simp only [g2, and_self, decide_true, Bool.not_true, Bool.false_eq_true, if_false, if_true, th_rcv, Option.bind_some]
      exact y_tail (op := fun b h => f_X9_putNow b q c h) (tGo_thr ht) (by rw [thr_6]; exact h0) (by rw [thr_6]; exact h8) (kPut_in ht.1.2 g1.1) (fun u e1 hu => by
        have := y_putNow (b := b) (h := h) hu (q := q) (c := c) g1.1 (by omega) g2.1 (by omega)
        rw [e1] at this
        exact this)
    · simp only [g2, decide_false, Bool.not_false, if_true, if_false]
      rw [thr_thr]
  · simp only [g1, decide_false, Bool.not_false, if_true, if_false, false_and]
    rw [thr_thr]
theorem y_insert {b : Nat} {t : TS} {h : HP} {q c : Int} (ht : tGo t) (hp : kPl (kOf (t.2 0))) (h0 : 0 ≤ t.1 6) (h8 : t.1 6 ≤ 8) (hq : inR q) (hc : inR c) :
    if (0 ≤ q ∧ q ≤ 200) ∧ 0 ≤ c ∧ c ≤ 25 then ∃ t', f_X9_insert b q c (TH b t h) = some ((kIns (kOf (t.2 0)) q c).1, TH b t' h) ∧ tChP (thr t 0) t' (kIns (kOf (t.2 0)) q c) else f_X9_insert b q c (TH b t h) = some (0, TH b (thr t 1) h) := by
  unfold f_X9_insert b_X9_insert_23
  have e : (upN t.1 7 0, t.2) = thr t 0 := rfl
  simp (discharger := omega) only [th_rcv, th_R0, th_R1, th_R2, th_R3, th_R4, th_R5, th_I6, th_W6, th_I7, th_W7, th_R8, th_R9, th_R10, th_R11, th_I12, th_W12, th_I13, th_W13, th_I14, th_W14, th_I15, th_W15, th_I16, th_W16, th_I17, th_W17, th_I18, th_W18, th_I19, th_W19, th_I20, th_W20, th_I21, th_W21, th_R22, th_R23, th_R24, th_R25, th_R26, th_R27, th_R28, th_I29, th_W29, th_I30, th_W30, th_I31, th_W31, th_R32, th_I33, th_W33, th_A0, th_S0, th_L0, th_A1, th_S1, th_L1, th_A2, th_S2, th_L2, th_A3, th_S3, th_L3, th_A4, th_S4, th_L4, th_A5, th_S5, th_L5, th_A6, th_S6, th_L6, th_A7, th_S7, th_L7, th_A8, th_S8, th_L8, th_A9, th_S9, th_L9, th_A10, th_S10, th_L10, th_A11, th_S11, th_L11, th_A12, th_S12, th_L12, th_A13, th_S13, th_L13, th_A14, th_S14, th_L14, th_A15, th_S15, th_L15, th_A16, th_S16, th_L16, th_A17, th_S17, th_L17, hb_some, hbx_inr, hbx_inl, Option.bind_some, iLT_in, iLE_in, iEQ_in, iIN_in, rtZ_in, rtC_in, rtB_in, if_pos]
  rw [e, x_noOne hq (by omega) (by omega) thr_7]
  simp only [hb_some, iEQ_bZ]
  by_cases g1 : 0 ≤ q ∧ q ≤ 200
  · simp only [g1, and_self, decide_true, Bool.not_true, Bool.false_eq_true, if_false, if_true, th_rcv, Option.bind_some, true_and]
    rw [x_noLetter hc (by omega) (by omega) thr_7]
    simp only [hb_some, iEQ_bZ]
    by_cases g2 : 0 ≤ c ∧ c ≤ 25
    · simp only [g2, and_self, decide_true, Bool.not_true, Bool.false_eq_true, if_false, if_true, th_rcv, Option.bind_some]
      refine y_tail (op := fun b h => f_X9_insertNow b q c h) (tGo_thr ht) (by rw [thr_6]; exact h0) (by rw [thr_6]; exact h8) ?_ (fun u e1 hu => by
        have := y_insertNow (b := b) (h := h) hu (q := q) (c := c) (by rw [e1]; exact hp) g1.1 (by omega) g2.1 (by omega)
        rw [e1] at this
        exact this)
      have := kOK_n ht.1.2
      unfold kIns
      by_cases e1 : kn (kOf (t.2 0)) = 200
      · rw [if_pos e1]; exact ⟨by omega, by omega⟩
      · rw [if_neg e1]
        by_cases e2 : kn (kOf (t.2 0)) < q
        · rw [if_pos e2]; exact ⟨by omega, by omega⟩
        · rw [if_neg e2]; exact ⟨by dsimp only; omega, by dsimp only; omega⟩
    · simp only [g2, decide_false, Bool.not_false, if_true, if_false]
      rw [thr_thr]
  · simp only [g1, decide_false, Bool.not_false, if_true, if_false, false_and]
    rw [thr_thr]
theorem y_erase {b : Nat} {t : TS} {h : HP} {q : Int} (ht : tGo t) (h0 : 0 ≤ t.1 6) (h8 : t.1 6 ≤ 8) (hq : inR q) :
    if 0 ≤ q ∧ q ≤ 200 then ∃ t', f_X9_erase b q (TH b t h) = some ((kEra (kOf (t.2 0)) q).1, TH b t' h) ∧ tChP (thr t 0) t' (kEra (kOf (t.2 0)) q) else f_X9_erase b q (TH b t h) = some (0, TH b (thr t 1) h) := by
  unfold f_X9_erase
  have e : (upN t.1 7 0, t.2) = thr t 0 := rfl
  simp (discharger := omega) only [th_rcv, th_R0, th_R1, th_R2, th_R3, th_R4, th_R5, th_I6, th_W6, th_I7, th_W7, th_R8, th_R9, th_R10, th_R11, th_I12, th_W12, th_I13, th_W13, th_I14, th_W14, th_I15, th_W15, th_I16, th_W16, th_I17, th_W17, th_I18, th_W18, th_I19, th_W19, th_I20, th_W20, th_I21, th_W21, th_R22, th_R23, th_R24, th_R25, th_R26, th_R27, th_R28, th_I29, th_W29, th_I30, th_W30, th_I31, th_W31, th_R32, th_I33, th_W33, th_A0, th_S0, th_L0, th_A1, th_S1, th_L1, th_A2, th_S2, th_L2, th_A3, th_S3, th_L3, th_A4, th_S4, th_L4, th_A5, th_S5, th_L5, th_A6, th_S6, th_L6, th_A7, th_S7, th_L7, th_A8, th_S8, th_L8, th_A9, th_S9, th_L9, th_A10, th_S10, th_L10, th_A11, th_S11, th_L11, th_A12, th_S12, th_L12, th_A13, th_S13, th_L13, th_A14, th_S14, th_L14, th_A15, th_S15, th_L15, th_A16, th_S16, th_L16, th_A17, th_S17, th_L17, hb_some, hbx_inr, hbx_inl, Option.bind_some, iLT_in, iLE_in, iEQ_in, iIN_in, rtZ_in, rtC_in, rtB_in, if_pos]
  rw [e, x_noOne hq (by omega) (by omega) thr_7]
  simp only [hb_some, iEQ_bZ]
  by_cases g1 : 0 ≤ q ∧ q ≤ 200
  · simp only [g1, and_self, decide_true, Bool.not_true, Bool.false_eq_true, if_false, if_true, th_rcv, Option.bind_some]
    refine y_tail (op := fun b h => f_X9_eraseNow b q h) (tGo_thr ht) (by rw [thr_6]; exact h0) (by rw [thr_6]; exact h8) ?_ (fun u e1 hu => by
      have := y_eraseNow (b := b) (h := h) hu (q := q) g1.1 (by omega)
      rw [e1] at this
      exact this)
    have := kOK_n ht.1.2
    unfold kEra
    by_cases e1 : kn (kOf (t.2 0)) = 1
    · rw [if_pos e1]; exact ⟨by omega, by omega⟩
    · rw [if_neg e1]
      by_cases e2 : kn (kOf (t.2 0)) ≤ q
      · rw [if_pos e2]; exact ⟨by omega, by omega⟩
      · rw [if_neg e2]; exact ⟨by dsimp only; omega, by dsimp only; omega⟩
  · simp only [g1, decide_false, Bool.not_false, if_true, if_false]
    rw [thr_thr]
theorem y_mark {b : Nat} {t : TS} {h : HP} {p : Int} (ht : tGo t) (h0 : 0 ≤ t.1 6) (h8 : t.1 6 ≤ 8) (hq : inR p) :
    if 0 ≤ p ∧ p < t.2 0 2 then ∃ t', f_X9_mark b p (TH b t h) = some ((kMrk (kOf (t.2 0)) p).1, TH b t' h) ∧ tChP (thr t 0) t' (kMrk (kOf (t.2 0)) p) else f_X9_mark b p (TH b t h) = some (0, TH b (thr t 1) h) := by
  unfold f_X9_mark
  have e : (upN t.1 7 0, t.2) = thr t 0 := rfl
  simp (discharger := omega) only [th_rcv, th_R0, th_R1, th_R2, th_R3, th_R4, th_R5, th_I6, th_W6, th_I7, th_W7, th_R8, th_R9, th_R10, th_R11, th_I12, th_W12, th_I13, th_W13, th_I14, th_W14, th_I15, th_W15, th_I16, th_W16, th_I17, th_W17, th_I18, th_W18, th_I19, th_W19, th_I20, th_W20, th_I21, th_W21, th_R22, th_R23, th_R24, th_R25, th_R26, th_R27, th_R28, th_I29, th_W29, th_I30, th_W30, th_I31, th_W31, th_R32, th_I33, th_W33, th_A0, th_S0, th_L0, th_A1, th_S1, th_L1, th_A2, th_S2, th_L2, th_A3, th_S3, th_L3, th_A4, th_S4, th_L4, th_A5, th_S5, th_L5, th_A6, th_S6, th_L6, th_A7, th_S7, th_L7, th_A8, th_S8, th_L8, th_A9, th_S9, th_L9, th_A10, th_S10, th_L10, th_A11, th_S11, th_L11, th_A12, th_S12, th_L12, th_A13, th_S13, th_L13, th_A14, th_S14, th_L14, th_A15, th_S15, th_L15, th_A16, th_S16, th_L16, th_A17, th_S17, th_L17, hb_some, hbx_inr, hbx_inl, Option.bind_some, iLT_in, iLE_in, iEQ_in, iIN_in, rtZ_in, rtC_in, rtB_in, if_pos]
  rw [e, x_noPattern (tPl (tGo_thr ht)) hq thr_7]
  simp only [hb_some, iEQ_bZ, thr_2]
  by_cases g1 : 0 ≤ p ∧ p < t.2 0 2
  · simp only [g1, and_self, decide_true, Bool.not_true, Bool.false_eq_true, if_false, if_true, th_rcv, Option.bind_some]
    refine y_tail (op := fun b h => f_X9_markNow b p h) (tGo_thr ht) (by rw [thr_6]; exact h0) (by rw [thr_6]; exact h8) ?_ (fun u e1 hu => by
      have e1' : u.2 0 = t.2 0 := e1
      have := y_markNow (b := b) (h := h) hu (p := p) g1.1 (by rw [e1']; exact g1.2)
      rw [e1'] at this
      exact this)
    have h60 : (km (kOf (t.2 0))).length ≤ 60 := ht.1.2.2.2.2.1
    have := mkl_len (g := fun q => kTh (kOf (t.2 0)) p q) (p := p) (i := 0) (n := (kn (kOf (t.2 0))).toNat) h60
    unfold kMrk kMkl
    exact ⟨by dsimp only; omega, by dsimp only; omega⟩
  · simp only [g1, decide_false, Bool.not_false, if_true, if_false]
    rw [thr_thr]
