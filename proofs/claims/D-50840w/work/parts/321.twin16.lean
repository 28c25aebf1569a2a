/-! STAGE 2s: the reference: what is asked. -/
set_option maxRecDepth 100000
/-- after a question: the same but for what was thrown, and what is written over at each look -/
def tOb (t t' : TS) (k : Int) : Prop := t'.1 = upN t.1 7 k ∧ ∀ j, j ≠ 6 → j ≠ 7 → j ≠ 8 → t'.2 j = t.2 j
theorem tOb_thr (t : TS) (k : Int) : tOb t (thr t k) k := ⟨rfl, fun _ _ _ _ => rfl⟩
theorem tOb_sc {t u : TS} (k : Int) (h : tSc (thr t k) u) : tOb t u k := ⟨h.1, h.2⟩
def kLse (K : SK) : Int := cnt (fun k => decide (kf K ≤ kt K k)) 0 (kn K).toNat
def oSize (K : SK) (u w : Int) : Int × Int := if 0 ≤ w ∧ w ≤ 6 then (if w = 0 then kn K else if w = 1 then kp K else if w = 2 then kf K else if w = 3 then ((km K).length : Int) else if w = 4 then unl (kt K) (kn K) (kf K) true + unl (kt K) (kn K) (kf K) false else if w = 5 then kLse K else u, 0) else (0, 1)
theorem o_size {b : Nat} {t : TS} {h : HP} {w : Int} (ht : tGo t) (hw : inR w) : ∃ t', f_X9_size b w (TH b t h) = some ((oSize (kOf (t.2 0)) (t.1 6) w).1, TH b t' h) ∧ tOb t t' (oSize (kOf (t.2 0)) (t.1 6) w).2 := by
  have e : (upN t.1 7 0, t.2) = thr t 0 := rfl
  obtain ⟨f1, f0⟩ := x_failsP (b := b) (t := thr t 0) (h := h) (k := 1) (by omega) (by omega) thr_7
  have hl : ((km (kOf (t.2 0))).length : Int) = t.2 0 3 := kOf_len ht.2
  have hg := tGo_thr (k := 0) ht
  have h1 := kOK_n ht.1.2
  have en : kn (kOf (t.2 0)) = t.2 0 1 := rfl
  rw [en] at h1
  unfold f_X9_size oSize
  simp (discharger := omega) only [th_rcv, th_R0, th_R1, th_R2, th_R3, th_R4, th_R5, th_I6, th_W6, th_I7, th_W7, th_R8, th_R9, th_R10, th_R11, th_I12, th_W12, th_I13, th_W13, th_I14, th_W14, th_I15, th_W15, th_I16, th_W16, th_I17, th_W17, th_I18, th_W18, th_I19, th_W19, th_I20, th_W20, th_I21, th_W21, th_R22, th_R23, th_R24, th_R25, th_R26, th_R27, th_R28, th_I29, th_W29, th_I30, th_W30, th_I31, th_W31, th_R32, th_I33, th_W33, th_A0, th_S0, th_L0, th_A1, th_S1, th_L1, th_A2, th_S2, th_L2, th_A3, th_S3, th_L3, th_A4, th_S4, th_L4, th_A5, th_S5, th_L5, th_A6, th_S6, th_L6, th_A7, th_S7, th_L7, th_A8, th_S8, th_L8, th_A9, th_S9, th_L9, th_A10, th_S10, th_L10, th_A11, th_S11, th_L11, th_A12, th_S12, th_L12, th_A13, th_S13, th_L13, th_A14, th_S14, th_L14, th_A15, th_S15, th_L15, th_A16, th_S16, th_L16, th_A17, th_S17, th_L17, hb_some, hbx_inr, hbx_inl, Option.bind_some, iLT_in, iLE_in, iEQ_in, iIN_in, rtZ_in, rtC_in, rtB_in, if_pos]
  rw [e, x_in hw (by omega) (by omega)]
  simp only [hb_some, iEQ_bZ]
  by_cases g1 : 0 ≤ w ∧ w ≤ 6
  · simp only [g1, and_self, decide_true, if_true]
    unfold b_X9_size_21
    simp only [th_rcv, Option.bind_some, f0, hb_some, i00, iIN_in hw]
    by_cases w0 : w = 0
    · simp (discharger := omega) only [w0, if_true, th_rcv, th_R0, th_R1, th_R2, th_R3, th_R4, th_R5, th_I6, th_W6, th_I7, th_W7, th_R8, th_R9, th_R10, th_R11, th_I12, th_W12, th_I13, th_W13, th_I14, th_W14, th_I15, th_W15, th_I16, th_W16, th_I17, th_W17, th_I18, th_W18, th_I19, th_W19, th_I20, th_W20, th_I21, th_W21, th_R22, th_R23, th_R24, th_R25, th_R26, th_R27, th_R28, th_I29, th_W29, th_I30, th_W30, th_I31, th_W31, th_R32, th_I33, th_W33, th_A0, th_S0, th_L0, th_A1, th_S1, th_L1, th_A2, th_S2, th_L2, th_A3, th_S3, th_L3, th_A4, th_S4, th_L4, th_A5, th_S5, th_L5, th_A6, th_S6, th_L6, th_A7, th_S7, th_L7, th_A8, th_S8, th_L8, th_A9, th_S9, th_L9, th_A10, th_S10, th_L10, th_A11, th_S11, th_L11, th_A12, th_S12, th_L12, th_A13, th_S13, th_L13, th_A14, th_S14, th_L14, th_A15, th_S15, th_L15, th_A16, th_S16, th_L16, th_A17, th_S17, th_L17, hb_some, hbx_inr, hbx_inl, Option.bind_some, iLT_in, iLE_in, iEQ_in, iIN_in, rtZ_in, rtC_in, rtB_in, if_pos, thr_2]
      exact ⟨_, rfl, tOb_thr t 0⟩
    by_cases w1 : w = 1
    · subst w1
      simp (discharger := omega) only [if_neg, th_rcv, th_R0, th_R1, th_R2, th_R3, th_R4, th_R5, th_I6, th_W6, th_I7, th_W7, th_R8, th_R9, th_R10, th_R11, th_I12, th_W12, th_I13, th_W13, th_I14, th_W14, th_I15, th_W15, th_I16, th_W16, th_I17, th_W17, th_I18, th_W18, th_I19, th_W19, th_I20, th_W20, th_I21, th_W21, th_R22, th_R23, th_R24, th_R25, th_R26, th_R27, th_R28, th_I29, th_W29, th_I30, th_W30, th_I31, th_W31, th_R32, th_I33, th_W33, th_A0, th_S0, th_L0, th_A1, th_S1, th_L1, th_A2, th_S2, th_L2, th_A3, th_S3, th_L3, th_A4, th_S4, th_L4, th_A5, th_S5, th_L5, th_A6, th_S6, th_L6, th_A7, th_S7, th_L7, th_A8, th_S8, th_L8, th_A9, th_S9, th_L9, th_A10, th_S10, th_L10, th_A11, th_S11, th_L11, th_A12, th_S12, th_L12, th_A13, th_S13, th_L13, th_A14, th_S14, th_L14, th_A15, th_S15, th_L15, th_A16, th_S16, th_L16, th_A17, th_S17, th_L17, hb_some, hbx_inr, hbx_inl, Option.bind_some, iLT_in, iLE_in, iEQ_in, iIN_in, rtZ_in, rtC_in, rtB_in, if_pos, thr_2]
      exact ⟨_, rfl, tOb_thr t 0⟩
    by_cases w2 : w = 2
    · subst w2
      simp (discharger := omega) only [if_neg, th_rcv, th_R0, th_R1, th_R2, th_R3, th_R4, th_R5, th_I6, th_W6, th_I7, th_W7, th_R8, th_R9, th_R10, th_R11, th_I12, th_W12, th_I13, th_W13, th_I14, th_W14, th_I15, th_W15, th_I16, th_W16, th_I17, th_W17, th_I18, th_W18, th_I19, th_W19, th_I20, th_W20, th_I21, th_W21, th_R22, th_R23, th_R24, th_R25, th_R26, th_R27, th_R28, th_I29, th_W29, th_I30, th_W30, th_I31, th_W31, th_R32, th_I33, th_W33, th_A0, th_S0, th_L0, th_A1, th_S1, th_L1, th_A2, th_S2, th_L2, th_A3, th_S3, th_L3, th_A4, th_S4, th_L4, th_A5, th_S5, th_L5, th_A6, th_S6, th_L6, th_A7, th_S7, th_L7, th_A8, th_S8, th_L8, th_A9, th_S9, th_L9, th_A10, th_S10, th_L10, th_A11, th_S11, th_L11, th_A12, th_S12, th_L12, th_A13, th_S13, th_L13, th_A14, th_S14, th_L14, th_A15, th_S15, th_L15, th_A16, th_S16, th_L16, th_A17, th_S17, th_L17, hb_some, hbx_inr, hbx_inl, Option.bind_some, iLT_in, iLE_in, iEQ_in, iIN_in, rtZ_in, rtC_in, rtB_in, if_pos, thr_2]
      exact ⟨_, rfl, tOb_thr t 0⟩
    by_cases w3 : w = 3
    · subst w3
      simp (discharger := omega) only [if_neg, th_rcv, th_R0, th_R1, th_R2, th_R3, th_R4, th_R5, th_I6, th_W6, th_I7, th_W7, th_R8, th_R9, th_R10, th_R11, th_I12, th_W12, th_I13, th_W13, th_I14, th_W14, th_I15, th_W15, th_I16, th_W16, th_I17, th_W17, th_I18, th_W18, th_I19, th_W19, th_I20, th_W20, th_I21, th_W21, th_R22, th_R23, th_R24, th_R25, th_R26, th_R27, th_R28, th_I29, th_W29, th_I30, th_W30, th_I31, th_W31, th_R32, th_I33, th_W33, th_A0, th_S0, th_L0, th_A1, th_S1, th_L1, th_A2, th_S2, th_L2, th_A3, th_S3, th_L3, th_A4, th_S4, th_L4, th_A5, th_S5, th_L5, th_A6, th_S6, th_L6, th_A7, th_S7, th_L7, th_A8, th_S8, th_L8, th_A9, th_S9, th_L9, th_A10, th_S10, th_L10, th_A11, th_S11, th_L11, th_A12, th_S12, th_L12, th_A13, th_S13, th_L13, th_A14, th_S14, th_L14, th_A15, th_S15, th_L15, th_A16, th_S16, th_L16, th_A17, th_S17, th_L17, hb_some, hbx_inr, hbx_inl, Option.bind_some, iLT_in, iLE_in, iEQ_in, iIN_in, rtZ_in, rtC_in, rtB_in, if_pos, thr_2, hl]
      exact ⟨_, rfl, tOb_thr t 0⟩
    by_cases w4 : w = 4
    · subst w4
      obtain ⟨u, p1, p2⟩ := x_unlike (b := b) (t := thr t 0) (h := h) (fr := 16) (m := t.2 0 1) (is := true) ht.1.1 (by omega) (by omega) (by omega) (fun k a c => ht.1.2.2.2.2.2.1 k a c)
      have hz := p2.z
      have hin : tIn u := by unfold tIn; rw [hz]; exact ht.1.1
      obtain ⟨v, r1, r2⟩ := x_unlike (b := b) (t := u) (h := h) (fr := 16) (m := t.2 0 1) (is := false) hin (by omega) (by omega) (by omega) (fun k a c => by rw [hz]; exact ht.1.2.2.2.2.2.1 k a c)
      simp only [bZ, if_true, Bool.false_eq_true, if_false] at p1 r1
      have e1 : u.2 0 1 = t.2 0 1 := by rw [hz]; rfl
      simp (discharger := omega) only [if_neg, th_rcv, th_R0, th_R1, th_R2, th_R3, th_R4, th_R5, th_I6, th_W6, th_I7, th_W7, th_R8, th_R9, th_R10, th_R11, th_I12, th_W12, th_I13, th_W13, th_I14, th_W14, th_I15, th_W15, th_I16, th_W16, th_I17, th_W17, th_I18, th_W18, th_I19, th_W19, th_I20, th_W20, th_I21, th_W21, th_R22, th_R23, th_R24, th_R25, th_R26, th_R27, th_R28, th_I29, th_W29, th_I30, th_W30, th_I31, th_W31, th_R32, th_I33, th_W33, th_A0, th_S0, th_L0, th_A1, th_S1, th_L1, th_A2, th_S2, th_L2, th_A3, th_S3, th_L3, th_A4, th_S4, th_L4, th_A5, th_S5, th_L5, th_A6, th_S6, th_L6, th_A7, th_S7, th_L7, th_A8, th_S8, th_L8, th_A9, th_S9, th_L9, th_A10, th_S10, th_L10, th_A11, th_S11, th_L11, th_A12, th_S12, th_L12, th_A13, th_S13, th_L13, th_A14, th_S14, th_L14, th_A15, th_S15, th_L15, th_A16, th_S16, th_L16, th_A17, th_S17, th_L17, hb_some, hbx_inr, hbx_inl, Option.bind_some, iLT_in, iLE_in, iEQ_in, iIN_in, rtZ_in, rtC_in, rtB_in, if_pos, thr_2, p1, e1, r1]
      refine ⟨v, ?_, tOb_sc 0 (p2.trans r2)⟩
      rw [hz]; rfl
    by_cases w5 : w = 5
    · subst w5
      simp (discharger := omega) only [if_neg, th_rcv, th_R0, th_R1, th_R2, th_R3, th_R4, th_R5, th_I6, th_W6, th_I7, th_W7, th_R8, th_R9, th_R10, th_R11, th_I12, th_W12, th_I13, th_W13, th_I14, th_W14, th_I15, th_W15, th_I16, th_W16, th_I17, th_W17, th_I18, th_W18, th_I19, th_W19, th_I20, th_W20, th_I21, th_W21, th_R22, th_R23, th_R24, th_R25, th_R26, th_R27, th_R28, th_I29, th_W29, th_I30, th_W30, th_I31, th_W31, th_R32, th_I33, th_W33, th_A0, th_S0, th_L0, th_A1, th_S1, th_L1, th_A2, th_S2, th_L2, th_A3, th_S3, th_L3, th_A4, th_S4, th_L4, th_A5, th_S5, th_L5, th_A6, th_S6, th_L6, th_A7, th_S7, th_L7, th_A8, th_S8, th_L8, th_A9, th_S9, th_L9, th_A10, th_S10, th_L10, th_A11, th_S11, th_L11, th_A12, th_S12, th_L12, th_A13, th_S13, th_L13, th_A14, th_S14, th_L14, th_A15, th_S15, th_L15, th_A16, th_S16, th_L16, th_A17, th_S17, th_L17, hb_some, hbx_inr, hbx_inl, Option.bind_some, iLT_in, iLE_in, iEQ_in, iIN_in, rtZ_in, rtC_in, rtB_in, if_pos, thr_2, x_loose (tPl hg)]
      exact ⟨_, rfl, tOb_thr t 0⟩
    · have e6 : (thr t 0).1 6 = t.1 6 := thr_6
      simp (discharger := omega) only [w0, w1, w2, w3, w4, w5, if_false, th_rcv, th_R0, th_R1, th_R2, th_R3, th_R4, th_R5, th_I6, th_W6, th_I7, th_W7, th_R8, th_R9, th_R10, th_R11, th_I12, th_W12, th_I13, th_W13, th_I14, th_W14, th_I15, th_W15, th_I16, th_W16, th_I17, th_W17, th_I18, th_W18, th_I19, th_W19, th_I20, th_W20, th_I21, th_W21, th_R22, th_R23, th_R24, th_R25, th_R26, th_R27, th_R28, th_I29, th_W29, th_I30, th_W30, th_I31, th_W31, th_R32, th_I33, th_W33, th_A0, th_S0, th_L0, th_A1, th_S1, th_L1, th_A2, th_S2, th_L2, th_A3, th_S3, th_L3, th_A4, th_S4, th_L4, th_A5, th_S5, th_L5, th_A6, th_S6, th_L6, th_A7, th_S7, th_L7, th_A8, th_S8, th_L8, th_A9, th_S9, th_L9, th_A10, th_S10, th_L10, th_A11, th_S11, th_L11, th_A12, th_S12, th_L12, th_A13, th_S13, th_L13, th_A14, th_S14, th_L14, th_A15, th_S15, th_L15, th_A16, th_S16, th_L16, th_A17, th_S17, th_L17, hb_some, hbx_inr, hbx_inl, Option.bind_some, iLT_in, iLE_in, iEQ_in, iIN_in, rtZ_in, rtC_in, rtB_in, if_pos, e6]
      exact ⟨_, rfl, tOb_thr t 0⟩
  · simp only [g1, decide_false, Bool.false_eq_true, if_false]
    unfold b_X9_size_21
    simp only [th_rcv, Option.bind_some, f1, hb_some, i10]
    rw [thr_thr]
    exact ⟨_, rfl, tOb_thr t 1⟩
def oTextAt (K : SK) (q : Int) : Int × Int := if 0 ≤ q ∧ q < kn K then (kt K q, 0) else (0, 1)
theorem o_textAt {b : Nat} {t : TS} {h : HP} {q : Int} (ht : tGo t) (hq : inR q) : ∃ t', f_X9_textAt b q (TH b t h) = some ((oTextAt (kOf (t.2 0)) q).1, TH b t' h) ∧ tOb t t' (oTextAt (kOf (t.2 0)) q).2 := by
  have e : (upN t.1 7 0, t.2) = thr t 0 := rfl
  have h1 := kOK_n ht.1.2
  have en : kn (kOf (t.2 0)) = t.2 0 1 := rfl
  rw [en] at h1
  unfold f_X9_textAt b_X9_textAt_26 oTextAt
  simp (discharger := omega) only [th_rcv, th_R0, th_R1, th_R2, th_R3, th_R4, th_R5, th_I6, th_W6, th_I7, th_W7, th_R8, th_R9, th_R10, th_R11, th_I12, th_W12, th_I13, th_W13, th_I14, th_W14, th_I15, th_W15, th_I16, th_W16, th_I17, th_W17, th_I18, th_W18, th_I19, th_W19, th_I20, th_W20, th_I21, th_W21, th_R22, th_R23, th_R24, th_R25, th_R26, th_R27, th_R28, th_I29, th_W29, th_I30, th_W30, th_I31, th_W31, th_R32, th_I33, th_W33, th_A0, th_S0, th_L0, th_A1, th_S1, th_L1, th_A2, th_S2, th_L2, th_A3, th_S3, th_L3, th_A4, th_S4, th_L4, th_A5, th_S5, th_L5, th_A6, th_S6, th_L6, th_A7, th_S7, th_L7, th_A8, th_S8, th_L8, th_A9, th_S9, th_L9, th_A10, th_S10, th_L10, th_A11, th_S11, th_L11, th_A12, th_S12, th_L12, th_A13, th_S13, th_L13, th_A14, th_S14, th_L14, th_A15, th_S15, th_L15, th_A16, th_S16, th_L16, th_A17, th_S17, th_L17, hb_some, hbx_inr, hbx_inl, Option.bind_some, iLT_in, iLE_in, iEQ_in, iIN_in, rtZ_in, rtC_in, rtB_in, if_pos]
  rw [e, x_noPlace (tPl (tGo_thr ht)) hq thr_7]
  simp only [hb_some, iEQ_bZ, thr_2, en]
  by_cases g1 : 0 ≤ q ∧ q < t.2 0 1
  · simp (discharger := omega) only [g1, and_self, decide_true, Bool.not_true, Bool.false_eq_true, if_false, if_true, th_rcv, th_R0, th_R1, th_R2, th_R3, th_R4, th_R5, th_I6, th_W6, th_I7, th_W7, th_R8, th_R9, th_R10, th_R11, th_I12, th_W12, th_I13, th_W13, th_I14, th_W14, th_I15, th_W15, th_I16, th_W16, th_I17, th_W17, th_I18, th_W18, th_I19, th_W19, th_I20, th_W20, th_I21, th_W21, th_R22, th_R23, th_R24, th_R25, th_R26, th_R27, th_R28, th_I29, th_W29, th_I30, th_W30, th_I31, th_W31, th_R32, th_I33, th_W33, th_A0, th_S0, th_L0, th_A1, th_S1, th_L1, th_A2, th_S2, th_L2, th_A3, th_S3, th_L3, th_A4, th_S4, th_L4, th_A5, th_S5, th_L5, th_A6, th_S6, th_L6, th_A7, th_S7, th_L7, th_A8, th_S8, th_L8, th_A9, th_S9, th_L9, th_A10, th_S10, th_L10, th_A11, th_S11, th_L11, th_A12, th_S12, th_L12, th_A13, th_S13, th_L13, th_A14, th_S14, th_L14, th_A15, th_S15, th_L15, th_A16, th_S16, th_L16, th_A17, th_S17, th_L17, hb_some, hbx_inr, hbx_inl, Option.bind_some, iLT_in, iLE_in, iEQ_in, iIN_in, rtZ_in, rtC_in, rtB_in, if_pos, thr_2]
    exact ⟨_, rfl, tOb_thr t 0⟩
  · simp only [g1, decide_false, Bool.not_false, if_true, if_false]
    rw [thr_thr]
    exact ⟨_, rfl, tOb_thr t 1⟩
def oBack (K : SK) (q : Int) : Int × Int := if 0 ≤ q ∧ q < kn K then (bf (kt K) (kf K) q, 0) else (0, 1)
theorem o_back {b : Nat} {t : TS} {h : HP} {q : Int} (ht : tGo t) (hq : inR q) : ∃ t', f_X9_back b q (TH b t h) = some ((oBack (kOf (t.2 0)) q).1, TH b t' h) ∧ tOb t t' (oBack (kOf (t.2 0)) q).2 := by
  have e : (upN t.1 7 0, t.2) = thr t 0 := rfl
  have h1 := kOK_n ht.1.2
  have en : kn (kOf (t.2 0)) = t.2 0 1 := rfl
  rw [en] at h1
  unfold f_X9_back b_X9_back_24 oBack
  simp (discharger := omega) only [th_rcv, th_R0, th_R1, th_R2, th_R3, th_R4, th_R5, th_I6, th_W6, th_I7, th_W7, th_R8, th_R9, th_R10, th_R11, th_I12, th_W12, th_I13, th_W13, th_I14, th_W14, th_I15, th_W15, th_I16, th_W16, th_I17, th_W17, th_I18, th_W18, th_I19, th_W19, th_I20, th_W20, th_I21, th_W21, th_R22, th_R23, th_R24, th_R25, th_R26, th_R27, th_R28, th_I29, th_W29, th_I30, th_W30, th_I31, th_W31, th_R32, th_I33, th_W33, th_A0, th_S0, th_L0, th_A1, th_S1, th_L1, th_A2, th_S2, th_L2, th_A3, th_S3, th_L3, th_A4, th_S4, th_L4, th_A5, th_S5, th_L5, th_A6, th_S6, th_L6, th_A7, th_S7, th_L7, th_A8, th_S8, th_L8, th_A9, th_S9, th_L9, th_A10, th_S10, th_L10, th_A11, th_S11, th_L11, th_A12, th_S12, th_L12, th_A13, th_S13, th_L13, th_A14, th_S14, th_L14, th_A15, th_S15, th_L15, th_A16, th_S16, th_L16, th_A17, th_S17, th_L17, hb_some, hbx_inr, hbx_inl, Option.bind_some, iLT_in, iLE_in, iEQ_in, iIN_in, rtZ_in, rtC_in, rtB_in, if_pos]
  rw [e, x_noPlace (tPl (tGo_thr ht)) hq thr_7]
  simp only [hb_some, iEQ_bZ, thr_2, en]
  by_cases g1 : 0 ≤ q ∧ q < t.2 0 1
  · simp (discharger := omega) only [g1, and_self, decide_true, Bool.not_true, Bool.false_eq_true, if_false, if_true, th_rcv, th_R0, th_R1, th_R2, th_R3, th_R4, th_R5, th_I6, th_W6, th_I7, th_W7, th_R8, th_R9, th_R10, th_R11, th_I12, th_W12, th_I13, th_W13, th_I14, th_W14, th_I15, th_W15, th_I16, th_W16, th_I17, th_W17, th_I18, th_W18, th_I19, th_W19, th_I20, th_W20, th_I21, th_W21, th_R22, th_R23, th_R24, th_R25, th_R26, th_R27, th_R28, th_I29, th_W29, th_I30, th_W30, th_I31, th_W31, th_R32, th_I33, th_W33, th_A0, th_S0, th_L0, th_A1, th_S1, th_L1, th_A2, th_S2, th_L2, th_A3, th_S3, th_L3, th_A4, th_S4, th_L4, th_A5, th_S5, th_L5, th_A6, th_S6, th_L6, th_A7, th_S7, th_L7, th_A8, th_S8, th_L8, th_A9, th_S9, th_L9, th_A10, th_S10, th_L10, th_A11, th_S11, th_L11, th_A12, th_S12, th_L12, th_A13, th_S13, th_L13, th_A14, th_S14, th_L14, th_A15, th_S15, th_L15, th_A16, th_S16, th_L16, th_A17, th_S17, th_L17, hb_some, hbx_inr, hbx_inl, Option.bind_some, iLT_in, iLE_in, iEQ_in, iIN_in, rtZ_in, rtC_in, rtB_in, if_pos]
    rw [x_backOf (tGo_thr ht).1.1 (by omega) (by omega) (by omega)]
    exact ⟨_, rfl, tOb_thr t 0⟩
  · simp only [g1, decide_false, Bool.not_false, if_true, if_false]
    rw [thr_thr]
    exact ⟨_, rfl, tOb_thr t 1⟩
def oAccount (K : SK) (w : Int) : Int × Int := if 0 ≤ w ∧ w ≤ 7 then (ka K w, 0) else (0, 1)
theorem o_account {b : Nat} {t : TS} {h : HP} {w : Int} (hw : inR w) : ∃ t', f_X9_account b w (TH b t h) = some ((oAccount (kOf (t.2 0)) w).1, TH b t' h) ∧ tOb t t' (oAccount (kOf (t.2 0)) w).2 := by
  have e : (upN t.1 7 0, t.2) = thr t 0 := rfl
  obtain ⟨f1, f0⟩ := x_failsP (b := b) (t := thr t 0) (h := h) (k := 1) (by omega) (by omega) thr_7
  unfold f_X9_account b_X9_account_21 b_X9_account_40 oAccount
  simp (discharger := omega) only [th_rcv, th_R0, th_R1, th_R2, th_R3, th_R4, th_R5, th_I6, th_W6, th_I7, th_W7, th_R8, th_R9, th_R10, th_R11, th_I12, th_W12, th_I13, th_W13, th_I14, th_W14, th_I15, th_W15, th_I16, th_W16, th_I17, th_W17, th_I18, th_W18, th_I19, th_W19, th_I20, th_W20, th_I21, th_W21, th_R22, th_R23, th_R24, th_R25, th_R26, th_R27, th_R28, th_I29, th_W29, th_I30, th_W30, th_I31, th_W31, th_R32, th_I33, th_W33, th_A0, th_S0, th_L0, th_A1, th_S1, th_L1, th_A2, th_S2, th_L2, th_A3, th_S3, th_L3, th_A4, th_S4, th_L4, th_A5, th_S5, th_L5, th_A6, th_S6, th_L6, th_A7, th_S7, th_L7, th_A8, th_S8, th_L8, th_A9, th_S9, th_L9, th_A10, th_S10, th_L10, th_A11, th_S11, th_L11, th_A12, th_S12, th_L12, th_A13, th_S13, th_L13, th_A14, th_S14, th_L14, th_A15, th_S15, th_L15, th_A16, th_S16, th_L16, th_A17, th_S17, th_L17, hb_some, hbx_inr, hbx_inl, Option.bind_some, iLT_in, iLE_in, iEQ_in, iIN_in, rtZ_in, rtC_in, rtB_in, if_pos]
  rw [e, x_in hw (by omega) (by omega)]
  simp only [hb_some, iEQ_bZ]
  by_cases g1 : 0 ≤ w ∧ w ≤ 7
  · simp only [g1, and_self, decide_true, if_true, th_rcv, Option.bind_some, f0, hb_some, i00]
    simp (discharger := omega) only [th_rcv, th_R0, th_R1, th_R2, th_R3, th_R4, th_R5, th_I6, th_W6, th_I7, th_W7, th_R8, th_R9, th_R10, th_R11, th_I12, th_W12, th_I13, th_W13, th_I14, th_W14, th_I15, th_W15, th_I16, th_W16, th_I17, th_W17, th_I18, th_W18, th_I19, th_W19, th_I20, th_W20, th_I21, th_W21, th_R22, th_R23, th_R24, th_R25, th_R26, th_R27, th_R28, th_I29, th_W29, th_I30, th_W30, th_I31, th_W31, th_R32, th_I33, th_W33, th_A0, th_S0, th_L0, th_A1, th_S1, th_L1, th_A2, th_S2, th_L2, th_A3, th_S3, th_L3, th_A4, th_S4, th_L4, th_A5, th_S5, th_L5, th_A6, th_S6, th_L6, th_A7, th_S7, th_L7, th_A8, th_S8, th_L8, th_A9, th_S9, th_L9, th_A10, th_S10, th_L10, th_A11, th_S11, th_L11, th_A12, th_S12, th_L12, th_A13, th_S13, th_L13, th_A14, th_S14, th_L14, th_A15, th_S15, th_L15, th_A16, th_S16, th_L16, th_A17, th_S17, th_L17, hb_some, hbx_inr, hbx_inl, Option.bind_some, iLT_in, iLE_in, iEQ_in, iIN_in, rtZ_in, rtC_in, rtB_in, if_pos, thr_2]
    exact ⟨_, rfl, tOb_thr t 0⟩
  · simp only [g1, decide_false, Bool.false_eq_true, if_false, th_rcv, Option.bind_some, f1, hb_some, i10]
    rw [thr_thr]
    exact ⟨_, rfl, tOb_thr t 1⟩
