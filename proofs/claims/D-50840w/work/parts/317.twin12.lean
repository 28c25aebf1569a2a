/-! STAGE 2o: the reference: rows copied. -/
set_option maxRecDepth 100000
theorem x_lays_0_1 {b : Nat} {t : TS} {h : HP} {at' into : Int} (h1 : 0 ≤ at') (h2 : at' + 576 ≤ 576) (h3 : 0 ≤ into) (h4 : into + 576 ≤ 576) : ∃ t', f_X9_lays (some (b + 1)) at' (some (b + 2)) into (TH b t h) = some ((), TH b t' h) ∧ t'.1 = t.1 ∧ (∀ j, j ≠ 1 → t'.2 j = t.2 j) ∧
    ∀ i, t'.2 1 i = if into ≤ i ∧ i < into + 576 then t.2 0 (at' + (i - into)) else t.2 1 i := by
  unfold f_X9_lays b_X9_lays_3
  refine fx_FU (bot := fun (_ : Option Nat) (_ : Int) (_ : Option Nat) (_ _ : Int) (_ : HP) => (none : Option (Unit × HP))) (body := c_X9_lays_3)
    (fun F (s : Int × TS) => F (some (b + 1)) at' (some (b + 2)) into s.1 (TH b s.2 h)) (fun s => (0 ≤ s.1 ∧ s.1 ≤ 576) ∧ s.2.1 = t.1 ∧ (∀ j, j ≠ 1 → s.2.2 j = t.2 j) ∧ ∀ i, s.2.2 1 i = if into ≤ i ∧ i < into + s.1 then t.2 0 (at' + (i - into)) else t.2 1 i) (fun s => (576 - s.1).toNat)
    (fun s v => ∃ t', v = some ((), TH b t' h) ∧ t'.1 = t.1 ∧ (∀ j, j ≠ 1 → t'.2 j = t.2 j) ∧ ∀ i, t'.2 1 i = if into ≤ i ∧ i < into + 576 then t.2 0 (at' + (i - into)) else t.2 1 i) ?_
    (0, t) ⟨⟨by dsimp only; omega, by dsimp only; omega⟩, rfl, fun j _ => rfl, fun i => by dsimp only; rw [if_neg (by omega)]⟩ (by dsimp only; omega)
  rintro rec ⟨k, u⟩ ⟨⟨z1, z2⟩, z3, z4, z5⟩ ih
  dsimp only at z1 z2 z3 z4 z5 ih ⊢
  have ej : u.2 0 = t.2 0 := z4 0 (by decide)
  unfold c_X9_lays_3
  by_cases g : 576 ≤ k
  · simp (discharger := omega) only [th_rcv, th_R0, th_R1, th_R2, th_R3, th_R4, th_R5, th_I6, th_W6, th_I7, th_W7, th_R8, th_R9, th_R10, th_R11, th_I12, th_W12, th_I13, th_W13, th_I14, th_W14, th_I15, th_W15, th_I16, th_W16, th_I17, th_W17, th_I18, th_W18, th_I19, th_W19, th_I20, th_W20, th_I21, th_W21, th_R22, th_R23, th_R24, th_R25, th_R26, th_R27, th_R28, th_I29, th_W29, th_I30, th_W30, th_I31, th_W31, th_R32, th_I33, th_W33, th_A0, th_S0, th_L0, th_A1, th_S1, th_L1, th_A2, th_S2, th_L2, th_A3, th_S3, th_L3, th_A4, th_S4, th_L4, th_A5, th_S5, th_L5, th_A6, th_S6, th_L6, th_A7, th_S7, th_L7, th_A8, th_S8, th_L8, th_A9, th_S9, th_L9, th_A10, th_S10, th_L10, th_A11, th_S11, th_L11, th_A12, th_S12, th_L12, th_A13, th_S13, th_L13, th_A14, th_S14, th_L14, th_A15, th_S15, th_L15, th_A16, th_S16, th_L16, th_A17, th_S17, th_L17, hb_some, hbx_inr, hbx_inl, Option.bind_some, iLT_in, iLE_in, iEQ_in, iIN_in, rtZ_in, rtC_in, rtB_in, if_pos]
    refine ⟨u, rfl, z3, z4, fun i => ?_⟩
    rw [z5, show k = 576 by omega]
  · simp (discharger := omega) only [th_rcv, th_R0, th_R1, th_R2, th_R3, th_R4, th_R5, th_I6, th_W6, th_I7, th_W7, th_R8, th_R9, th_R10, th_R11, th_I12, th_W12, th_I13, th_W13, th_I14, th_W14, th_I15, th_W15, th_I16, th_W16, th_I17, th_W17, th_I18, th_W18, th_I19, th_W19, th_I20, th_W20, th_I21, th_W21, th_R22, th_R23, th_R24, th_R25, th_R26, th_R27, th_R28, th_I29, th_W29, th_I30, th_W30, th_I31, th_W31, th_R32, th_I33, th_W33, th_A0, th_S0, th_L0, th_A1, th_S1, th_L1, th_A2, th_S2, th_L2, th_A3, th_S3, th_L3, th_A4, th_S4, th_L4, th_A5, th_S5, th_L5, th_A6, th_S6, th_L6, th_A7, th_S7, th_L7, th_A8, th_S8, th_L8, th_A9, th_S9, th_L9, th_A10, th_S10, th_L10, th_A11, th_S11, th_L11, th_A12, th_S12, th_L12, th_A13, th_S13, th_L13, th_A14, th_S14, th_L14, th_A15, th_S15, th_L15, th_A16, th_S16, th_L16, th_A17, th_S17, th_L17, hb_some, hbx_inr, hbx_inl, Option.bind_some, iLT_in, iLE_in, iEQ_in, iIN_in, rtZ_in, rtC_in, rtB_in, if_pos, if_neg, ej]
    refine ih (k + 1, _) ⟨⟨by dsimp only; omega, by dsimp only; omega⟩, z3, fun j hj => by dsimp only; rw [upN_ne hj]; exact z4 j hj, fun i => ?_⟩ (by dsimp only; omega)
    dsimp only
    unfold upN
    rw [if_pos rfl]
    by_cases e : i = into + k
    · rw [e, upI_eq, if_pos (by omega), show into + k - into = k by omega]
    · rw [upI_ne e, z5]
      by_cases e2 : into ≤ i ∧ i < into + k
      · rw [if_pos e2, if_pos (by omega)]
      · rw [if_neg e2, if_neg (by omega)]
theorem x_lays_1_0 {b : Nat} {t : TS} {h : HP} {at' into : Int} (h1 : 0 ≤ at') (h2 : at' + 576 ≤ 576) (h3 : 0 ≤ into) (h4 : into + 576 ≤ 576) : ∃ t', f_X9_lays (some (b + 2)) at' (some (b + 1)) into (TH b t h) = some ((), TH b t' h) ∧ t'.1 = t.1 ∧ (∀ j, j ≠ 0 → t'.2 j = t.2 j) ∧
    ∀ i, t'.2 0 i = if into ≤ i ∧ i < into + 576 then t.2 1 (at' + (i - into)) else t.2 0 i := by
  unfold f_X9_lays b_X9_lays_3
  refine fx_FU (bot := fun (_ : Option Nat) (_ : Int) (_ : Option Nat) (_ _ : Int) (_ : HP) => (none : Option (Unit × HP))) (body := c_X9_lays_3)
    (fun F (s : Int × TS) => F (some (b + 2)) at' (some (b + 1)) into s.1 (TH b s.2 h)) (fun s => (0 ≤ s.1 ∧ s.1 ≤ 576) ∧ s.2.1 = t.1 ∧ (∀ j, j ≠ 0 → s.2.2 j = t.2 j) ∧ ∀ i, s.2.2 0 i = if into ≤ i ∧ i < into + s.1 then t.2 1 (at' + (i - into)) else t.2 0 i) (fun s => (576 - s.1).toNat)
    (fun s v => ∃ t', v = some ((), TH b t' h) ∧ t'.1 = t.1 ∧ (∀ j, j ≠ 0 → t'.2 j = t.2 j) ∧ ∀ i, t'.2 0 i = if into ≤ i ∧ i < into + 576 then t.2 1 (at' + (i - into)) else t.2 0 i) ?_
    (0, t) ⟨⟨by dsimp only; omega, by dsimp only; omega⟩, rfl, fun j _ => rfl, fun i => by dsimp only; rw [if_neg (by omega)]⟩ (by dsimp only; omega)
  rintro rec ⟨k, u⟩ ⟨⟨z1, z2⟩, z3, z4, z5⟩ ih
  dsimp only at z1 z2 z3 z4 z5 ih ⊢
  have ej : u.2 1 = t.2 1 := z4 1 (by decide)
  unfold c_X9_lays_3
  by_cases g : 576 ≤ k
  · simp (discharger := omega) only [th_rcv, th_R0, th_R1, th_R2, th_R3, th_R4, th_R5, th_I6, th_W6, th_I7, th_W7, th_R8, th_R9, th_R10, th_R11, th_I12, th_W12, th_I13, th_W13, th_I14, th_W14, th_I15, th_W15, th_I16, th_W16, th_I17, th_W17, th_I18, th_W18, th_I19, th_W19, th_I20, th_W20, th_I21, th_W21, th_R22, th_R23, th_R24, th_R25, th_R26, th_R27, th_R28, th_I29, th_W29, th_I30, th_W30, th_I31, th_W31, th_R32, th_I33, th_W33, th_A0, th_S0, th_L0, th_A1, th_S1, th_L1, th_A2, th_S2, th_L2, th_A3, th_S3, th_L3, th_A4, th_S4, th_L4, th_A5, th_S5, th_L5, th_A6, th_S6, th_L6, th_A7, th_S7, th_L7, th_A8, th_S8, th_L8, th_A9, th_S9, th_L9, th_A10, th_S10, th_L10, th_A11, th_S11, th_L11, th_A12, th_S12, th_L12, th_A13, th_S13, th_L13, th_A14, th_S14, th_L14, th_A15, th_S15, th_L15, th_A16, th_S16, th_L16, th_A17, th_S17, th_L17, hb_some, hbx_inr, hbx_inl, Option.bind_some, iLT_in, iLE_in, iEQ_in, iIN_in, rtZ_in, rtC_in, rtB_in, if_pos]
    refine ⟨u, rfl, z3, z4, fun i => ?_⟩
    rw [z5, show k = 576 by omega]
  · simp (discharger := omega) only [th_rcv, th_R0, th_R1, th_R2, th_R3, th_R4, th_R5, th_I6, th_W6, th_I7, th_W7, th_R8, th_R9, th_R10, th_R11, th_I12, th_W12, th_I13, th_W13, th_I14, th_W14, th_I15, th_W15, th_I16, th_W16, th_I17, th_W17, th_I18, th_W18, th_I19, th_W19, th_I20, th_W20, th_I21, th_W21, th_R22, th_R23, th_R24, th_R25, th_R26, th_R27, th_R28, th_I29, th_W29, th_I30, th_W30, th_I31, th_W31, th_R32, th_I33, th_W33, th_A0, th_S0, th_L0, th_A1, th_S1, th_L1, th_A2, th_S2, th_L2, th_A3, th_S3, th_L3, th_A4, th_S4, th_L4, th_A5, th_S5, th_L5, th_A6, th_S6, th_L6, th_A7, th_S7, th_L7, th_A8, th_S8, th_L8, th_A9, th_S9, th_L9, th_A10, th_S10, th_L10, th_A11, th_S11, th_L11, th_A12, th_S12, th_L12, th_A13, th_S13, th_L13, th_A14, th_S14, th_L14, th_A15, th_S15, th_L15, th_A16, th_S16, th_L16, th_A17, th_S17, th_L17, hb_some, hbx_inr, hbx_inl, Option.bind_some, iLT_in, iLE_in, iEQ_in, iIN_in, rtZ_in, rtC_in, rtB_in, if_pos, if_neg, ej]
    refine ih (k + 1, _) ⟨⟨by dsimp only; omega, by dsimp only; omega⟩, z3, fun j hj => by dsimp only; rw [upN_ne hj]; exact z4 j hj, fun i => ?_⟩ (by dsimp only; omega)
    dsimp only
    unfold upN
    rw [if_pos rfl]
    by_cases e : i = into + k
    · rw [e, upI_eq, if_pos (by omega), show into + k - into = k by omega]
    · rw [upI_ne e, z5]
      by_cases e2 : into ≤ i ∧ i < into + k
      · rw [if_pos e2, if_pos (by omega)]
      · rw [if_neg e2, if_neg (by omega)]
theorem x_lays_0_2 {b : Nat} {t : TS} {h : HP} {at' into : Int} (h1 : 0 ≤ at') (h2 : at' + 576 ≤ 576) (h3 : 0 ≤ into) (h4 : into + 576 ≤ 576) : ∃ t', f_X9_lays (some (b + 1)) at' (some (b + 3)) into (TH b t h) = some ((), TH b t' h) ∧ t'.1 = t.1 ∧ (∀ j, j ≠ 2 → t'.2 j = t.2 j) ∧
    ∀ i, t'.2 2 i = if into ≤ i ∧ i < into + 576 then t.2 0 (at' + (i - into)) else t.2 2 i := by
  unfold f_X9_lays b_X9_lays_3
  refine fx_FU (bot := fun (_ : Option Nat) (_ : Int) (_ : Option Nat) (_ _ : Int) (_ : HP) => (none : Option (Unit × HP))) (body := c_X9_lays_3)
    (fun F (s : Int × TS) => F (some (b + 1)) at' (some (b + 3)) into s.1 (TH b s.2 h)) (fun s => (0 ≤ s.1 ∧ s.1 ≤ 576) ∧ s.2.1 = t.1 ∧ (∀ j, j ≠ 2 → s.2.2 j = t.2 j) ∧ ∀ i, s.2.2 2 i = if into ≤ i ∧ i < into + s.1 then t.2 0 (at' + (i - into)) else t.2 2 i) (fun s => (576 - s.1).toNat)
    (fun s v => ∃ t', v = some ((), TH b t' h) ∧ t'.1 = t.1 ∧ (∀ j, j ≠ 2 → t'.2 j = t.2 j) ∧ ∀ i, t'.2 2 i = if into ≤ i ∧ i < into + 576 then t.2 0 (at' + (i - into)) else t.2 2 i) ?_
    (0, t) ⟨⟨by dsimp only; omega, by dsimp only; omega⟩, rfl, fun j _ => rfl, fun i => by dsimp only; rw [if_neg (by omega)]⟩ (by dsimp only; omega)
  rintro rec ⟨k, u⟩ ⟨⟨z1, z2⟩, z3, z4, z5⟩ ih
  dsimp only at z1 z2 z3 z4 z5 ih ⊢
  have ej : u.2 0 = t.2 0 := z4 0 (by decide)
  unfold c_X9_lays_3
  by_cases g : 576 ≤ k
  · simp (discharger := omega) only [th_rcv, th_R0, th_R1, th_R2, th_R3, th_R4, th_R5, th_I6, th_W6, th_I7, th_W7, th_R8, th_R9, th_R10, th_R11, th_I12, th_W12, th_I13, th_W13, th_I14, th_W14, th_I15, th_W15, th_I16, th_W16, th_I17, th_W17, th_I18, th_W18, th_I19, th_W19, th_I20, th_W20, th_I21, th_W21, th_R22, th_R23, th_R24, th_R25, th_R26, th_R27, th_R28, th_I29, th_W29, th_I30, th_W30, th_I31, th_W31, th_R32, th_I33, th_W33, th_A0, th_S0, th_L0, th_A1, th_S1, th_L1, th_A2, th_S2, th_L2, th_A3, th_S3, th_L3, th_A4, th_S4, th_L4, th_A5, th_S5, th_L5, th_A6, th_S6, th_L6, th_A7, th_S7, th_L7, th_A8, th_S8, th_L8, th_A9, th_S9, th_L9, th_A10, th_S10, th_L10, th_A11, th_S11, th_L11, th_A12, th_S12, th_L12, th_A13, th_S13, th_L13, th_A14, th_S14, th_L14, th_A15, th_S15, th_L15, th_A16, th_S16, th_L16, th_A17, th_S17, th_L17, hb_some, hbx_inr, hbx_inl, Option.bind_some, iLT_in, iLE_in, iEQ_in, iIN_in, rtZ_in, rtC_in, rtB_in, if_pos]
    refine ⟨u, rfl, z3, z4, fun i => ?_⟩
    rw [z5, show k = 576 by omega]
  · simp (discharger := omega) only [th_rcv, th_R0, th_R1, th_R2, th_R3, th_R4, th_R5, th_I6, th_W6, th_I7, th_W7, th_R8, th_R9, th_R10, th_R11, th_I12, th_W12, th_I13, th_W13, th_I14, th_W14, th_I15, th_W15, th_I16, th_W16, th_I17, th_W17, th_I18, th_W18, th_I19, th_W19, th_I20, th_W20, th_I21, th_W21, th_R22, th_R23, th_R24, th_R25, th_R26, th_R27, th_R28, th_I29, th_W29, th_I30, th_W30, th_I31, th_W31, th_R32, th_I33, th_W33, th_A0, th_S0, th_L0, th_A1, th_S1, th_L1, th_A2, th_S2, th_L2, th_A3, th_S3, th_L3, th_A4, th_S4, th_L4, th_A5, th_S5, th_L5, th_A6, th_S6, th_L6, th_A7, th_S7, th_L7, th_A8, th_S8, th_L8, th_A9, th_S9, th_L9, th_A10, th_S10, th_L10, th_A11, th_S11, th_L11, th_A12, th_S12, th_L12, th_A13, th_S13, th_L13, th_A14, th_S14, th_L14, th_A15, th_S15, th_L15, th_A16, th_S16, th_L16, th_A17, th_S17, th_L17, hb_some, hbx_inr, hbx_inl, Option.bind_some, iLT_in, iLE_in, iEQ_in, iIN_in, rtZ_in, rtC_in, rtB_in, if_pos, if_neg, ej]
    refine ih (k + 1, _) ⟨⟨by dsimp only; omega, by dsimp only; omega⟩, z3, fun j hj => by dsimp only; rw [upN_ne hj]; exact z4 j hj, fun i => ?_⟩ (by dsimp only; omega)
    dsimp only
    unfold upN
    rw [if_pos rfl]
    by_cases e : i = into + k
    · rw [e, upI_eq, if_pos (by omega), show into + k - into = k by omega]
    · rw [upI_ne e, z5]
      by_cases e2 : into ≤ i ∧ i < into + k
      · rw [if_pos e2, if_pos (by omega)]
      · rw [if_neg e2, if_neg (by omega)]
theorem x_lays_2_3 {b : Nat} {t : TS} {h : HP} {at' into : Int} (h1 : 0 ≤ at') (h2 : at' + 576 ≤ 576) (h3 : 0 ≤ into) (h4 : into + 576 ≤ 4608) : ∃ t', f_X9_lays (some (b + 3)) at' (some (b + 4)) into (TH b t h) = some ((), TH b t' h) ∧ t'.1 = t.1 ∧ (∀ j, j ≠ 3 → t'.2 j = t.2 j) ∧
    ∀ i, t'.2 3 i = if into ≤ i ∧ i < into + 576 then t.2 2 (at' + (i - into)) else t.2 3 i := by
  unfold f_X9_lays b_X9_lays_3
  refine fx_FU (bot := fun (_ : Option Nat) (_ : Int) (_ : Option Nat) (_ _ : Int) (_ : HP) => (none : Option (Unit × HP))) (body := c_X9_lays_3)
    (fun F (s : Int × TS) => F (some (b + 3)) at' (some (b + 4)) into s.1 (TH b s.2 h)) (fun s => (0 ≤ s.1 ∧ s.1 ≤ 576) ∧ s.2.1 = t.1 ∧ (∀ j, j ≠ 3 → s.2.2 j = t.2 j) ∧ ∀ i, s.2.2 3 i = if into ≤ i ∧ i < into + s.1 then t.2 2 (at' + (i - into)) else t.2 3 i) (fun s => (576 - s.1).toNat)
    (fun s v => ∃ t', v = some ((), TH b t' h) ∧ t'.1 = t.1 ∧ (∀ j, j ≠ 3 → t'.2 j = t.2 j) ∧ ∀ i, t'.2 3 i = if into ≤ i ∧ i < into + 576 then t.2 2 (at' + (i - into)) else t.2 3 i) ?_
    (0, t) ⟨⟨by dsimp only; omega, by dsimp only; omega⟩, rfl, fun j _ => rfl, fun i => by dsimp only; rw [if_neg (by omega)]⟩ (by dsimp only; omega)
  rintro rec ⟨k, u⟩ ⟨⟨z1, z2⟩, z3, z4, z5⟩ ih
  dsimp only at z1 z2 z3 z4 z5 ih ⊢
  have ej : u.2 2 = t.2 2 := z4 2 (by decide)
  unfold c_X9_lays_3
  by_cases g : 576 ≤ k
  · simp (discharger := omega) only [th_rcv, th_R0, th_R1, th_R2, th_R3, th_R4, th_R5, th_I6, th_W6, th_I7, th_W7, th_R8, th_R9, th_R10, th_R11, th_I12, th_W12, th_I13, th_W13, th_I14, th_W14, th_I15, th_W15, th_I16, th_W16, th_I17, th_W17, th_I18, th_W18, th_I19, th_W19, th_I20, th_W20, th_I21, th_W21, th_R22, th_R23, th_R24, th_R25, th_R26, th_R27, th_R28, th_I29, th_W29, th_I30, th_W30, th_I31, th_W31, th_R32, th_I33, th_W33, th_A0, th_S0, th_L0, th_A1, th_S1, th_L1, th_A2, th_S2, th_L2, th_A3, th_S3, th_L3, th_A4, th_S4, th_L4, th_A5, th_S5, th_L5, th_A6, th_S6, th_L6, th_A7, th_S7, th_L7, th_A8, th_S8, th_L8, th_A9, th_S9, th_L9, th_A10, th_S10, th_L10, th_A11, th_S11, th_L11, th_A12, th_S12, th_L12, th_A13, th_S13, th_L13, th_A14, th_S14, th_L14, th_A15, th_S15, th_L15, th_A16, th_S16, th_L16, th_A17, th_S17, th_L17, hb_some, hbx_inr, hbx_inl, Option.bind_some, iLT_in, iLE_in, iEQ_in, iIN_in, rtZ_in, rtC_in, rtB_in, if_pos]
    refine ⟨u, rfl, z3, z4, fun i => ?_⟩
    rw [z5, show k = 576 by omega]
  · simp (discharger := omega) only [th_rcv, th_R0, th_R1, th_R2, th_R3, th_R4, th_R5, th_I6, th_W6, th_I7, th_W7, th_R8, th_R9, th_R10, th_R11, th_I12, th_W12, th_I13, th_W13, th_I14, th_W14, th_I15, th_W15, th_I16, th_W16, th_I17, th_W17, th_I18, th_W18, th_I19, th_W19, th_I20, th_W20, th_I21, th_W21, th_R22, th_R23, th_R24, th_R25, th_R26, th_R27, th_R28, th_I29, th_W29, th_I30, th_W30, th_I31, th_W31, th_R32, th_I33, th_W33, th_A0, th_S0, th_L0, th_A1, th_S1, th_L1, th_A2, th_S2, th_L2, th_A3, th_S3, th_L3, th_A4, th_S4, th_L4, th_A5, th_S5, th_L5, th_A6, th_S6, th_L6, th_A7, th_S7, th_L7, th_A8, th_S8, th_L8, th_A9, th_S9, th_L9, th_A10, th_S10, th_L10, th_A11, th_S11, th_L11, th_A12, th_S12, th_L12, th_A13, th_S13, th_L13, th_A14, th_S14, th_L14, th_A15, th_S15, th_L15, th_A16, th_S16, th_L16, th_A17, th_S17, th_L17, hb_some, hbx_inr, hbx_inl, Option.bind_some, iLT_in, iLE_in, iEQ_in, iIN_in, rtZ_in, rtC_in, rtB_in, if_pos, if_neg, ej]
    refine ih (k + 1, _) ⟨⟨by dsimp only; omega, by dsimp only; omega⟩, z3, fun j hj => by dsimp only; rw [upN_ne hj]; exact z4 j hj, fun i => ?_⟩ (by dsimp only; omega)
    dsimp only
    unfold upN
    rw [if_pos rfl]
    by_cases e : i = into + k
    · rw [e, upI_eq, if_pos (by omega), show into + k - into = k by omega]
    · rw [upI_ne e, z5]
      by_cases e2 : into ≤ i ∧ i < into + k
      · rw [if_pos e2, if_pos (by omega)]
      · rw [if_neg e2, if_neg (by omega)]
theorem x_lays_0_3 {b : Nat} {t : TS} {h : HP} {at' into : Int} (h1 : 0 ≤ at') (h2 : at' + 576 ≤ 576) (h3 : 0 ≤ into) (h4 : into + 576 ≤ 4608) : ∃ t', f_X9_lays (some (b + 1)) at' (some (b + 4)) into (TH b t h) = some ((), TH b t' h) ∧ t'.1 = t.1 ∧ (∀ j, j ≠ 3 → t'.2 j = t.2 j) ∧
    ∀ i, t'.2 3 i = if into ≤ i ∧ i < into + 576 then t.2 0 (at' + (i - into)) else t.2 3 i := by
  unfold f_X9_lays b_X9_lays_3
  refine fx_FU (bot := fun (_ : Option Nat) (_ : Int) (_ : Option Nat) (_ _ : Int) (_ : HP) => (none : Option (Unit × HP))) (body := c_X9_lays_3)
    (fun F (s : Int × TS) => F (some (b + 1)) at' (some (b + 4)) into s.1 (TH b s.2 h)) (fun s => (0 ≤ s.1 ∧ s.1 ≤ 576) ∧ s.2.1 = t.1 ∧ (∀ j, j ≠ 3 → s.2.2 j = t.2 j) ∧ ∀ i, s.2.2 3 i = if into ≤ i ∧ i < into + s.1 then t.2 0 (at' + (i - into)) else t.2 3 i) (fun s => (576 - s.1).toNat)
    (fun s v => ∃ t', v = some ((), TH b t' h) ∧ t'.1 = t.1 ∧ (∀ j, j ≠ 3 → t'.2 j = t.2 j) ∧ ∀ i, t'.2 3 i = if into ≤ i ∧ i < into + 576 then t.2 0 (at' + (i - into)) else t.2 3 i) ?_
    (0, t) ⟨⟨by dsimp only; omega, by dsimp only; omega⟩, rfl, fun j _ => rfl, fun i => by dsimp only; rw [if_neg (by omega)]⟩ (by dsimp only; omega)
  rintro rec ⟨k, u⟩ ⟨⟨z1, z2⟩, z3, z4, z5⟩ ih
  dsimp only at z1 z2 z3 z4 z5 ih ⊢
  have ej : u.2 0 = t.2 0 := z4 0 (by decide)
  unfold c_X9_lays_3
  by_cases g : 576 ≤ k
  · simp (discharger := omega) only [th_rcv, th_R0, th_R1, th_R2, th_R3, th_R4, th_R5, th_I6, th_W6, th_I7, th_W7, th_R8, th_R9, th_R10, th_R11, th_I12, th_W12, th_I13, th_W13, th_I14, th_W14, th_I15, th_W15, th_I16, th_W16, th_I17, th_W17, th_I18, th_W18, th_I19, th_W19, th_I20, th_W20, th_I21, th_W21, th_R22, th_R23, th_R24, th_R25, th_R26, th_R27, th_R28, th_I29, th_W29, th_I30, th_W30, th_I31, th_W31, th_R32, th_I33, th_W33, th_A0, th_S0, th_L0, th_A1, th_S1, th_L1, th_A2, th_S2, th_L2, th_A3, th_S3, th_L3, th_A4, th_S4, th_L4, th_A5, th_S5, th_L5, th_A6, th_S6, th_L6, th_A7, th_S7, th_L7, th_A8, th_S8, th_L8, th_A9, th_S9, th_L9, th_A10, th_S10, th_L10, th_A11, th_S11, th_L11, th_A12, th_S12, th_L12, th_A13, th_S13, th_L13, th_A14, th_S14, th_L14, th_A15, th_S15, th_L15, th_A16, th_S16, th_L16, th_A17, th_S17, th_L17, hb_some, hbx_inr, hbx_inl, Option.bind_some, iLT_in, iLE_in, iEQ_in, iIN_in, rtZ_in, rtC_in, rtB_in, if_pos]
    refine ⟨u, rfl, z3, z4, fun i => ?_⟩
    rw [z5, show k = 576 by omega]
  · simp (discharger := omega) only [th_rcv, th_R0, th_R1, th_R2, th_R3, th_R4, th_R5, th_I6, th_W6, th_I7, th_W7, th_R8, th_R9, th_R10, th_R11, th_I12, th_W12, th_I13, th_W13, th_I14, th_W14, th_I15, th_W15, th_I16, th_W16, th_I17, th_W17, th_I18, th_W18, th_I19, th_W19, th_I20, th_W20, th_I21, th_W21, th_R22, th_R23, th_R24, th_R25, th_R26, th_R27, th_R28, th_I29, th_W29, th_I30, th_W30, th_I31, th_W31, th_R32, th_I33, th_W33, th_A0, th_S0, th_L0, th_A1, th_S1, th_L1, th_A2, th_S2, th_L2, th_A3, th_S3, th_L3, th_A4, th_S4, th_L4, th_A5, th_S5, th_L5, th_A6, th_S6, th_L6, th_A7, th_S7, th_L7, th_A8, th_S8, th_L8, th_A9, th_S9, th_L9, th_A10, th_S10, th_L10, th_A11, th_S11, th_L11, th_A12, th_S12, th_L12, th_A13, th_S13, th_L13, th_A14, th_S14, th_L14, th_A15, th_S15, th_L15, th_A16, th_S16, th_L16, th_A17, th_S17, th_L17, hb_some, hbx_inr, hbx_inl, Option.bind_some, iLT_in, iLE_in, iEQ_in, iIN_in, rtZ_in, rtC_in, rtB_in, if_pos, if_neg, ej]
    refine ih (k + 1, _) ⟨⟨by dsimp only; omega, by dsimp only; omega⟩, z3, fun j hj => by dsimp only; rw [upN_ne hj]; exact z4 j hj, fun i => ?_⟩ (by dsimp only; omega)
    dsimp only
    unfold upN
    rw [if_pos rfl]
    by_cases e : i = into + k
    · rw [e, upI_eq, if_pos (by omega), show into + k - into = k by omega]
    · rw [upI_ne e, z5]
      by_cases e2 : into ≤ i ∧ i < into + k
      · rw [if_pos e2, if_pos (by omega)]
      · rw [if_neg e2, if_neg (by omega)]
theorem x_lays_3_0 {b : Nat} {t : TS} {h : HP} {at' into : Int} (h1 : 0 ≤ at') (h2 : at' + 576 ≤ 4608) (h3 : 0 ≤ into) (h4 : into + 576 ≤ 576) : ∃ t', f_X9_lays (some (b + 4)) at' (some (b + 1)) into (TH b t h) = some ((), TH b t' h) ∧ t'.1 = t.1 ∧ (∀ j, j ≠ 0 → t'.2 j = t.2 j) ∧
    ∀ i, t'.2 0 i = if into ≤ i ∧ i < into + 576 then t.2 3 (at' + (i - into)) else t.2 0 i := by
  unfold f_X9_lays b_X9_lays_3
  refine fx_FU (bot := fun (_ : Option Nat) (_ : Int) (_ : Option Nat) (_ _ : Int) (_ : HP) => (none : Option (Unit × HP))) (body := c_X9_lays_3)
    (fun F (s : Int × TS) => F (some (b + 4)) at' (some (b + 1)) into s.1 (TH b s.2 h)) (fun s => (0 ≤ s.1 ∧ s.1 ≤ 576) ∧ s.2.1 = t.1 ∧ (∀ j, j ≠ 0 → s.2.2 j = t.2 j) ∧ ∀ i, s.2.2 0 i = if into ≤ i ∧ i < into + s.1 then t.2 3 (at' + (i - into)) else t.2 0 i) (fun s => (576 - s.1).toNat)
    (fun s v => ∃ t', v = some ((), TH b t' h) ∧ t'.1 = t.1 ∧ (∀ j, j ≠ 0 → t'.2 j = t.2 j) ∧ ∀ i, t'.2 0 i = if into ≤ i ∧ i < into + 576 then t.2 3 (at' + (i - into)) else t.2 0 i) ?_
    (0, t) ⟨⟨by dsimp only; omega, by dsimp only; omega⟩, rfl, fun j _ => rfl, fun i => by dsimp only; rw [if_neg (by omega)]⟩ (by dsimp only; omega)
  rintro rec ⟨k, u⟩ ⟨⟨z1, z2⟩, z3, z4, z5⟩ ih
  dsimp only at z1 z2 z3 z4 z5 ih ⊢
  have ej : u.2 3 = t.2 3 := z4 3 (by decide)
  unfold c_X9_lays_3
  by_cases g : 576 ≤ k
  · simp (discharger := omega) only [th_rcv, th_R0, th_R1, th_R2, th_R3, th_R4, th_R5, th_I6, th_W6, th_I7, th_W7, th_R8, th_R9, th_R10, th_R11, th_I12, th_W12, th_I13, th_W13, th_I14, th_W14, th_I15, th_W15, th_I16, th_W16, th_I17, th_W17, th_I18, th_W18, th_I19, th_W19, th_I20, th_W20, th_I21, th_W21, th_R22, th_R23, th_R24, th_R25, th_R26, th_R27, th_R28, th_I29, th_W29, th_I30, th_W30, th_I31, th_W31, th_R32, th_I33, th_W33, th_A0, th_S0, th_L0, th_A1, th_S1, th_L1, th_A2, th_S2, th_L2, th_A3, th_S3, th_L3, th_A4, th_S4, th_L4, th_A5, th_S5, th_L5, th_A6, th_S6, th_L6, th_A7, th_S7, th_L7, th_A8, th_S8, th_L8, th_A9, th_S9, th_L9, th_A10, th_S10, th_L10, th_A11, th_S11, th_L11, th_A12, th_S12, th_L12, th_A13, th_S13, th_L13, th_A14, th_S14, th_L14, th_A15, th_S15, th_L15, th_A16, th_S16, th_L16, th_A17, th_S17, th_L17, hb_some, hbx_inr, hbx_inl, Option.bind_some, iLT_in, iLE_in, iEQ_in, iIN_in, rtZ_in, rtC_in, rtB_in, if_pos]
    refine ⟨u, rfl, z3, z4, fun i => ?_⟩
    rw [z5, show k = 576 by omega]
  · simp (discharger := omega) only [th_rcv, th_R0, th_R1, th_R2, th_R3, th_R4, th_R5, th_I6, th_W6, th_I7, th_W7, th_R8, th_R9, th_R10, th_R11, th_I12, th_W12, th_I13, th_W13, th_I14, th_W14, th_I15, th_W15, th_I16, th_W16, th_I17, th_W17, th_I18, th_W18, th_I19, th_W19, th_I20, th_W20, th_I21, th_W21, th_R22, th_R23, th_R24, th_R25, th_R26, th_R27, th_R28, th_I29, th_W29, th_I30, th_W30, th_I31, th_W31, th_R32, th_I33, th_W33, th_A0, th_S0, th_L0, th_A1, th_S1, th_L1, th_A2, th_S2, th_L2, th_A3, th_S3, th_L3, th_A4, th_S4, th_L4, th_A5, th_S5, th_L5, th_A6, th_S6, th_L6, th_A7, th_S7, th_L7, th_A8, th_S8, th_L8, th_A9, th_S9, th_L9, th_A10, th_S10, th_L10, th_A11, th_S11, th_L11, th_A12, th_S12, th_L12, th_A13, th_S13, th_L13, th_A14, th_S14, th_L14, th_A15, th_S15, th_L15, th_A16, th_S16, th_L16, th_A17, th_S17, th_L17, hb_some, hbx_inr, hbx_inl, Option.bind_some, iLT_in, iLE_in, iEQ_in, iIN_in, rtZ_in, rtC_in, rtB_in, if_pos, if_neg, ej]
    refine ih (k + 1, _) ⟨⟨by dsimp only; omega, by dsimp only; omega⟩, z3, fun j hj => by dsimp only; rw [upN_ne hj]; exact z4 j hj, fun i => ?_⟩ (by dsimp only; omega)
    dsimp only
    unfold upN
    rw [if_pos rfl]
    by_cases e : i = into + k
    · rw [e, upI_eq, if_pos (by omega), show into + k - into = k by omega]
    · rw [upI_ne e, z5]
      by_cases e2 : into ≤ i ∧ i < into + k
      · rw [if_pos e2, if_pos (by omega)]
      · rw [if_neg e2, if_neg (by omega)]
theorem x_lays_0_4 {b : Nat} {t : TS} {h : HP} {at' into : Int} (h1 : 0 ≤ at') (h2 : at' + 576 ≤ 576) (h3 : 0 ≤ into) (h4 : into + 576 ≤ 1152) : ∃ t', f_X9_lays (some (b + 1)) at' (some (b + 5)) into (TH b t h) = some ((), TH b t' h) ∧ t'.1 = t.1 ∧ (∀ j, j ≠ 4 → t'.2 j = t.2 j) ∧
    ∀ i, t'.2 4 i = if into ≤ i ∧ i < into + 576 then t.2 0 (at' + (i - into)) else t.2 4 i := by
  unfold f_X9_lays b_X9_lays_3
  refine fx_FU (bot := fun (_ : Option Nat) (_ : Int) (_ : Option Nat) (_ _ : Int) (_ : HP) => (none : Option (Unit × HP))) (body := c_X9_lays_3)
    (fun F (s : Int × TS) => F (some (b + 1)) at' (some (b + 5)) into s.1 (TH b s.2 h)) (fun s => (0 ≤ s.1 ∧ s.1 ≤ 576) ∧ s.2.1 = t.1 ∧ (∀ j, j ≠ 4 → s.2.2 j = t.2 j) ∧ ∀ i, s.2.2 4 i = if into ≤ i ∧ i < into + s.1 then t.2 0 (at' + (i - into)) else t.2 4 i) (fun s => (576 - s.1).toNat)
    (fun s v => ∃ t', v = some ((), TH b t' h) ∧ t'.1 = t.1 ∧ (∀ j, j ≠ 4 → t'.2 j = t.2 j) ∧ ∀ i, t'.2 4 i = if into ≤ i ∧ i < into + 576 then t.2 0 (at' + (i - into)) else t.2 4 i) ?_
    (0, t) ⟨⟨by dsimp only; omega, by dsimp only; omega⟩, rfl, fun j _ => rfl, fun i => by dsimp only; rw [if_neg (by omega)]⟩ (by dsimp only; omega)
  rintro rec ⟨k, u⟩ ⟨⟨z1, z2⟩, z3, z4, z5⟩ ih
  dsimp only at z1 z2 z3 z4 z5 ih ⊢
  have ej : u.2 0 = t.2 0 := z4 0 (by decide)
  unfold c_X9_lays_3
  by_cases g : 576 ≤ k
  · simp (discharger := omega) only [th_rcv, th_R0, th_R1, th_R2, th_R3, th_R4, th_R5, th_I6, th_W6, th_I7, th_W7, th_R8, th_R9, th_R10, th_R11, th_I12, th_W12, th_I13, th_W13, th_I14, th_W14, th_I15, th_W15, th_I16, th_W16, th_I17, th_W17, th_I18, th_W18, th_I19, th_W19, th_I20, th_W20, th_I21, th_W21, th_R22, th_R23, th_R24, th_R25, th_R26, th_R27, th_R28, th_I29, th_W29, th_I30, th_W30, th_I31, th_W31, th_R32, th_I33, th_W33, th_A0, th_S0, th_L0, th_A1, th_S1, th_L1, th_A2, th_S2, th_L2, th_A3, th_S3, th_L3, th_A4, th_S4, th_L4, th_A5, th_S5, th_L5, th_A6, th_S6, th_L6, th_A7, th_S7, th_L7, th_A8, th_S8, th_L8, th_A9, th_S9, th_L9, th_A10, th_S10, th_L10, th_A11, th_S11, th_L11, th_A12, th_S12, th_L12, th_A13, th_S13, th_L13, th_A14, th_S14, th_L14, th_A15, th_S15, th_L15, th_A16, th_S16, th_L16, th_A17, th_S17, th_L17, hb_some, hbx_inr, hbx_inl, Option.bind_some, iLT_in, iLE_in, iEQ_in, iIN_in, rtZ_in, rtC_in, rtB_in, if_pos]
    refine ⟨u, rfl, z3, z4, fun i => ?_⟩
    rw [z5, show k = 576 by omega]
  · simp (discharger := omega) only [th_rcv, th_R0, th_R1, th_R2, th_R3, th_R4, th_R5, th_I6, th_W6, th_I7, th_W7, th_R8, th_R9, th_R10, th_R11, th_I12, th_W12, th_I13, th_W13, th_I14, th_W14, th_I15, th_W15, th_I16, th_W16, th_I17, th_W17, th_I18, th_W18, th_I19, th_W19, th_I20, th_W20, th_I21, th_W21, th_R22, th_R23, th_R24, th_R25, th_R26, th_R27, th_R28, th_I29, th_W29, th_I30, th_W30, th_I31, th_W31, th_R32, th_I33, th_W33, th_A0, th_S0, th_L0, th_A1, th_S1, th_L1, th_A2, th_S2, th_L2, th_A3, th_S3, th_L3, th_A4, th_S4, th_L4, th_A5, th_S5, th_L5, th_A6, th_S6, th_L6, th_A7, th_S7, th_L7, th_A8, th_S8, th_L8, th_A9, th_S9, th_L9, th_A10, th_S10, th_L10, th_A11, th_S11, th_L11, th_A12, th_S12, th_L12, th_A13, th_S13, th_L13, th_A14, th_S14, th_L14, th_A15, th_S15, th_L15, th_A16, th_S16, th_L16, th_A17, th_S17, th_L17, hb_some, hbx_inr, hbx_inl, Option.bind_some, iLT_in, iLE_in, iEQ_in, iIN_in, rtZ_in, rtC_in, rtB_in, if_pos, if_neg, ej]
    refine ih (k + 1, _) ⟨⟨by dsimp only; omega, by dsimp only; omega⟩, z3, fun j hj => by dsimp only; rw [upN_ne hj]; exact z4 j hj, fun i => ?_⟩ (by dsimp only; omega)
    dsimp only
    unfold upN
    rw [if_pos rfl]
    by_cases e : i = into + k
    · rw [e, upI_eq, if_pos (by omega), show into + k - into = k by omega]
    · rw [upI_ne e, z5]
      by_cases e2 : into ≤ i ∧ i < into + k
      · rw [if_pos e2, if_pos (by omega)]
      · rw [if_neg e2, if_neg (by omega)]
theorem x_lays_4_0 {b : Nat} {t : TS} {h : HP} {at' into : Int} (h1 : 0 ≤ at') (h2 : at' + 576 ≤ 1152) (h3 : 0 ≤ into) (h4 : into + 576 ≤ 576) : ∃ t', f_X9_lays (some (b + 5)) at' (some (b + 1)) into (TH b t h) = some ((), TH b t' h) ∧ t'.1 = t.1 ∧ (∀ j, j ≠ 0 → t'.2 j = t.2 j) ∧
    ∀ i, t'.2 0 i = if into ≤ i ∧ i < into + 576 then t.2 4 (at' + (i - into)) else t.2 0 i := by
  unfold f_X9_lays b_X9_lays_3
  refine fx_FU (bot := fun (_ : Option Nat) (_ : Int) (_ : Option Nat) (_ _ : Int) (_ : HP) => (none : Option (Unit × HP))) (body := c_X9_lays_3)
    (fun F (s : Int × TS) => F (some (b + 5)) at' (some (b + 1)) into s.1 (TH b s.2 h)) (fun s => (0 ≤ s.1 ∧ s.1 ≤ 576) ∧ s.2.1 = t.1 ∧ (∀ j, j ≠ 0 → s.2.2 j = t.2 j) ∧ ∀ i, s.2.2 0 i = if into ≤ i ∧ i < into + s.1 then t.2 4 (at' + (i - into)) else t.2 0 i) (fun s => (576 - s.1).toNat)
    (fun s v => ∃ t', v = some ((), TH b t' h) ∧ t'.1 = t.1 ∧ (∀ j, j ≠ 0 → t'.2 j = t.2 j) ∧ ∀ i, t'.2 0 i = if into ≤ i ∧ i < into + 576 then t.2 4 (at' + (i - into)) else t.2 0 i) ?_
    (0, t) ⟨⟨by dsimp only; omega, by dsimp only; omega⟩, rfl, fun j _ => rfl, fun i => by dsimp only; rw [if_neg (by omega)]⟩ (by dsimp only; omega)
  rintro rec ⟨k, u⟩ ⟨⟨z1, z2⟩, z3, z4, z5⟩ ih
  dsimp only at z1 z2 z3 z4 z5 ih ⊢
  have ej : u.2 4 = t.2 4 := z4 4 (by decide)
  unfold c_X9_lays_3
  by_cases g : 576 ≤ k
  · simp (discharger := omega) only [th_rcv, th_R0, th_R1, th_R2, th_R3, th_R4, th_R5, th_I6, th_W6, th_I7, th_W7, th_R8, th_R9, th_R10, th_R11, th_I12, th_W12, th_I13, th_W13, th_I14, th_W14, th_I15, th_W15, th_I16, th_W16, th_I17, th_W17, th_I18, th_W18, th_I19, th_W19, th_I20, th_W20, th_I21, th_W21, th_R22, th_R23, th_R24, th_R25, th_R26, th_R27, th_R28, th_I29, th_W29, th_I30, th_W30, th_I31, th_W31, th_R32, th_I33, th_W33, th_A0, th_S0, th_L0, th_A1, th_S1, th_L1, th_A2, th_S2, th_L2, th_A3, th_S3, th_L3, th_A4, th_S4, th_L4, th_A5, th_S5, th_L5, th_A6, th_S6, th_L6, th_A7, th_S7, th_L7, th_A8, th_S8, th_L8, th_A9, th_S9, th_L9, th_A10, th_S10, th_L10, th_A11, th_S11, th_L11, th_A12, th_S12, th_L12, th_A13, th_S13, th_L13, th_A14, th_S14, th_L14, th_A15, th_S15, th_L15, th_A16, th_S16, th_L16, th_A17, th_S17, th_L17, hb_some, hbx_inr, hbx_inl, Option.bind_some, iLT_in, iLE_in, iEQ_in, iIN_in, rtZ_in, rtC_in, rtB_in, if_pos]
    refine ⟨u, rfl, z3, z4, fun i => ?_⟩
    rw [z5, show k = 576 by omega]
  · simp (discharger := omega) only [th_rcv, th_R0, th_R1, th_R2, th_R3, th_R4, th_R5, th_I6, th_W6, th_I7, th_W7, th_R8, th_R9, th_R10, th_R11, th_I12, th_W12, th_I13, th_W13, th_I14, th_W14, th_I15, th_W15, th_I16, th_W16, th_I17, th_W17, th_I18, th_W18, th_I19, th_W19, th_I20, th_W20, th_I21, th_W21, th_R22, th_R23, th_R24, th_R25, th_R26, th_R27, th_R28, th_I29, th_W29, th_I30, th_W30, th_I31, th_W31, th_R32, th_I33, th_W33, th_A0, th_S0, th_L0, th_A1, th_S1, th_L1, th_A2, th_S2, th_L2, th_A3, th_S3, th_L3, th_A4, th_S4, th_L4, th_A5, th_S5, th_L5, th_A6, th_S6, th_L6, th_A7, th_S7, th_L7, th_A8, th_S8, th_L8, th_A9, th_S9, th_L9, th_A10, th_S10, th_L10, th_A11, th_S11, th_L11, th_A12, th_S12, th_L12, th_A13, th_S13, th_L13, th_A14, th_S14, th_L14, th_A15, th_S15, th_L15, th_A16, th_S16, th_L16, th_A17, th_S17, th_L17, hb_some, hbx_inr, hbx_inl, Option.bind_some, iLT_in, iLE_in, iEQ_in, iIN_in, rtZ_in, rtC_in, rtB_in, if_pos, if_neg, ej]
    refine ih (k + 1, _) ⟨⟨by dsimp only; omega, by dsimp only; omega⟩, z3, fun j hj => by dsimp only; rw [upN_ne hj]; exact z4 j hj, fun i => ?_⟩ (by dsimp only; omega)
    dsimp only
    unfold upN
    rw [if_pos rfl]
    by_cases e : i = into + k
    · rw [e, upI_eq, if_pos (by omega), show into + k - into = k by omega]
    · rw [upI_ne e, z5]
      by_cases e2 : into ≤ i ∧ i < into + k
      · rw [if_pos e2, if_pos (by omega)]
      · rw [if_neg e2, if_neg (by omega)]
