/-! STAGE 2e: the reference: shifts, inventories. -/
set_option maxRecDepth 100000
theorem x_shifts {b : Nat} {t : TS} {h : HP} {fr by' : Int} (ht : tOK t) (hf : inR fr) : ∃ t', f_X9_shifts b fr by' (TH b t h) = some ((), TH b t' h) ∧ t'.1 = t.1 ∧ (∀ j, j ≠ 0 → t'.2 j = t.2 j) ∧
    ∀ i, t'.2 0 i = if 456 ≤ i ∧ i < 456 + 2 * t.2 0 3 ∧ i % 2 = 0 ∧ fr ≤ t.2 0 i then t.2 0 i + by' else t.2 0 i := by
  obtain ⟨k1, k2, k3, k4, k5, k6⟩ := ht
  unfold f_X9_shifts b_X9_shifts_2
  refine fx_FU (bot := fun (_ : Option Nat) (_ _ _ : Int) (_ : HP) => (none : Option (Unit × HP))) (body := c_X9_shifts_2)
    (fun F (s : Int × TS) => F (some b) fr by' s.1 (TH b s.2 h)) (fun s => (0 ≤ s.1 ∧ s.1 ≤ t.2 0 3) ∧ s.2.1 = t.1 ∧ (∀ j, j ≠ 0 → s.2.2 j = t.2 j) ∧
      ∀ i, s.2.2 0 i = if 456 ≤ i ∧ i < 456 + 2 * s.1 ∧ i % 2 = 0 ∧ fr ≤ t.2 0 i then t.2 0 i + by' else t.2 0 i) (fun s => (t.2 0 3 - s.1).toNat)
    (fun s v => ∃ t', v = some ((), TH b t' h) ∧ t'.1 = t.1 ∧ (∀ j, j ≠ 0 → t'.2 j = t.2 j) ∧
    ∀ i, t'.2 0 i = if 456 ≤ i ∧ i < 456 + 2 * t.2 0 3 ∧ i % 2 = 0 ∧ fr ≤ t.2 0 i then t.2 0 i + by' else t.2 0 i) ?_
    (0, t) ⟨⟨by dsimp only; omega, by dsimp only; omega⟩, rfl, fun j hj => rfl, fun i => by dsimp only; rw [if_neg (by omega)]⟩ (by dsimp only; omega)
  rintro rec ⟨k, u⟩ ⟨⟨h3, h4⟩, h5, h6, h7⟩ ih
  dsimp only at h3 h4 h5 h6 h7 ih ⊢
  have e3 : u.2 0 3 = t.2 0 3 := by rw [h7, if_neg (by omega)]
  unfold c_X9_shifts_2 b_X9_shifts_37
  simp (discharger := omega) only [th_rcv, th_R0, th_R1, th_R2, th_R3, th_R4, th_R5, th_I6, th_W6, th_I7, th_W7, th_R8, th_R9, th_R10, th_R11, th_I12, th_W12, th_I13, th_W13, th_I14, th_W14, th_I15, th_W15, th_I16, th_W16, th_I17, th_W17, th_I18, th_W18, th_I19, th_W19, th_I20, th_W20, th_I21, th_W21, th_R22, th_R23, th_R24, th_R25, th_R26, th_R27, th_R28, th_I29, th_W29, th_I30, th_W30, th_I31, th_W31, th_R32, th_I33, th_W33, th_A0, th_S0, th_L0, th_A1, th_S1, th_L1, th_A2, th_S2, th_L2, th_A3, th_S3, th_L3, th_A4, th_S4, th_L4, th_A5, th_S5, th_L5, th_A6, th_S6, th_L6, th_A7, th_S7, th_L7, th_A8, th_S8, th_L8, th_A9, th_S9, th_L9, th_A10, th_S10, th_L10, th_A11, th_S11, th_L11, th_A12, th_S12, th_L12, th_A13, th_S13, th_L13, th_A14, th_S14, th_L14, th_A15, th_S15, th_L15, th_A16, th_S16, th_L16, th_A17, th_S17, th_L17, hb_some, hbx_inr, hbx_inl, Option.bind_some, iLT_in, iLE_in, iEQ_in, iIN_in, rtZ_in, rtC_in, rtB_in, if_pos, e3]
  by_cases g : t.2 0 3 ≤ k
  · rw [if_pos g]
    refine ⟨u, rfl, h5, h6, fun i => ?_⟩
    rw [h7, show k = t.2 0 3 by omega]
  · have ek : u.2 0 (456 + 2 * k) = t.2 0 (456 + 2 * k) := by rw [h7, if_neg (by omega)]
    have r1 := k1 (456 + 2 * k) (by omega)
    rw [if_neg g]
    simp (discharger := omega) only [th_rcv, th_R0, th_R1, th_R2, th_R3, th_R4, th_R5, th_I6, th_W6, th_I7, th_W7, th_R8, th_R9, th_R10, th_R11, th_I12, th_W12, th_I13, th_W13, th_I14, th_W14, th_I15, th_W15, th_I16, th_W16, th_I17, th_W17, th_I18, th_W18, th_I19, th_W19, th_I20, th_W20, th_I21, th_W21, th_R22, th_R23, th_R24, th_R25, th_R26, th_R27, th_R28, th_I29, th_W29, th_I30, th_W30, th_I31, th_W31, th_R32, th_I33, th_W33, th_A0, th_S0, th_L0, th_A1, th_S1, th_L1, th_A2, th_S2, th_L2, th_A3, th_S3, th_L3, th_A4, th_S4, th_L4, th_A5, th_S5, th_L5, th_A6, th_S6, th_L6, th_A7, th_S7, th_L7, th_A8, th_S8, th_L8, th_A9, th_S9, th_L9, th_A10, th_S10, th_L10, th_A11, th_S11, th_L11, th_A12, th_S12, th_L12, th_A13, th_S13, th_L13, th_A14, th_S14, th_L14, th_A15, th_S15, th_L15, th_A16, th_S16, th_L16, th_A17, th_S17, th_L17, hb_some, hbx_inr, hbx_inl, Option.bind_some, iLT_in, iLE_in, iEQ_in, iIN_in, rtZ_in, rtC_in, rtB_in, if_pos, x_markPlace, ek]
    by_cases g2 : t.2 0 (456 + 2 * k) < fr
    · rw [if_pos g2]
      refine ih (k + 1, u) ⟨⟨by dsimp only; omega, by dsimp only; omega⟩, h5, h6, fun i => ?_⟩ (by dsimp only; omega)
      dsimp only
      rw [h7]
      by_cases g3 : 456 ≤ i ∧ i < 456 + 2 * k ∧ i % 2 = 0 ∧ fr ≤ t.2 0 i
      · rw [if_pos g3, if_pos (by omega)]
      · rw [if_neg g3, if_neg]
        intro g4
        by_cases g5 : i = 456 + 2 * k
        · rw [g5] at g4; omega
        · exact g3 ⟨g4.1, by omega, g4.2.2⟩
    · rw [if_neg g2]
      refine ih (k + 1, _) ⟨⟨by dsimp only; omega, by dsimp only; omega⟩, h5, fun j hj => ?_, fun i => ?_⟩ (by dsimp only; omega)
      · dsimp only; rw [upN_ne hj]; exact h6 j hj
      · dsimp only
        rw [upN_0]
        by_cases g5 : i = 456 + 2 * k
        · rw [g5, upI_eq, if_pos (by omega)]
        · rw [upI_ne g5, h7]
          by_cases g3 : 456 ≤ i ∧ i < 456 + 2 * k ∧ i % 2 = 0 ∧ fr ≤ t.2 0 i
          · rw [if_pos g3, if_pos (by omega)]
          · rw [if_neg g3, if_neg]
            intro g4
            exact g3 ⟨g4.1, by omega, g4.2.2⟩
def mko (t : TS) (p : Int) : Int := cnt (fun k => decide (t.2 0 (456 + 2 * k + 1) = p)) 0 (t.2 0 3).toNat
theorem x_marksOf {b : Nat} {t : TS} {h : HP} {p : Int} (ht : tOK t) (hp : inR p) : f_X9_marksOf b p (TH b t h) = some (mko t p, TH b t h) := by
  obtain ⟨k1, k2, k3, k4, k5, k6⟩ := ht
  unfold f_X9_marksOf b_X9_marksOf_4
  have key := fx_FU (bot := fun (_ : Option Nat) (_ _ _ : Int) (_ : HP) => (none : Option (Int × HP))) (body := c_X9_marksOf_4)
    (fun F (s : Int × Int) => F (some b) p s.1 s.2 (TH b t h)) (fun s => 0 ≤ s.2 ∧ s.2 ≤ t.2 0 3) (fun s => (t.2 0 3 - s.2).toNat)
    (fun s v => v = some (s.1 + cnt (fun k => decide (t.2 0 (456 + 2 * k + 1) = p)) s.2 (t.2 0 3 - s.2).toNat, TH b t h)) ?_ (0, 0) ⟨by omega, by dsimp only; omega⟩ (by dsimp only; omega)
  · dsimp only at key
    rw [key]
    unfold mko
    rw [Int.zero_add, Int.sub_zero]
  · rintro rec ⟨n, k⟩ ⟨h3, h4⟩ ih
    dsimp only at h3 h4 ih ⊢
    have r1 := k1 (456 + 2 * k + 1) (by omega)
    unfold c_X9_marksOf_4 b_X9_marksOf_29
    by_cases g : t.2 0 3 ≤ k
    · rw [show k = t.2 0 3 by omega]
      simp (discharger := omega) only [th_rcv, th_R0, th_R1, th_R2, th_R3, th_R4, th_R5, th_I6, th_W6, th_I7, th_W7, th_R8, th_R9, th_R10, th_R11, th_I12, th_W12, th_I13, th_W13, th_I14, th_W14, th_I15, th_W15, th_I16, th_W16, th_I17, th_W17, th_I18, th_W18, th_I19, th_W19, th_I20, th_W20, th_I21, th_W21, th_R22, th_R23, th_R24, th_R25, th_R26, th_R27, th_R28, th_I29, th_W29, th_I30, th_W30, th_I31, th_W31, th_R32, th_I33, th_W33, th_A0, th_S0, th_L0, th_A1, th_S1, th_L1, th_A2, th_S2, th_L2, th_A3, th_S3, th_L3, th_A4, th_S4, th_L4, th_A5, th_S5, th_L5, th_A6, th_S6, th_L6, th_A7, th_S7, th_L7, th_A8, th_S8, th_L8, th_A9, th_S9, th_L9, th_A10, th_S10, th_L10, th_A11, th_S11, th_L11, th_A12, th_S12, th_L12, th_A13, th_S13, th_L13, th_A14, th_S14, th_L14, th_A15, th_S15, th_L15, th_A16, th_S16, th_L16, th_A17, th_S17, th_L17, hb_some, hbx_inr, hbx_inl, Option.bind_some, iLT_in, iLE_in, iEQ_in, iIN_in, rtZ_in, rtC_in, rtB_in, if_pos]
      rw [show (t.2 0 3 - t.2 0 3).toNat = 0 by omega]
      simp [cnt]
    · simp (discharger := omega) only [th_rcv, th_R0, th_R1, th_R2, th_R3, th_R4, th_R5, th_I6, th_W6, th_I7, th_W7, th_R8, th_R9, th_R10, th_R11, th_I12, th_W12, th_I13, th_W13, th_I14, th_W14, th_I15, th_W15, th_I16, th_W16, th_I17, th_W17, th_I18, th_W18, th_I19, th_W19, th_I20, th_W20, th_I21, th_W21, th_R22, th_R23, th_R24, th_R25, th_R26, th_R27, th_R28, th_I29, th_W29, th_I30, th_W30, th_I31, th_W31, th_R32, th_I33, th_W33, th_A0, th_S0, th_L0, th_A1, th_S1, th_L1, th_A2, th_S2, th_L2, th_A3, th_S3, th_L3, th_A4, th_S4, th_L4, th_A5, th_S5, th_L5, th_A6, th_S6, th_L6, th_A7, th_S7, th_L7, th_A8, th_S8, th_L8, th_A9, th_S9, th_L9, th_A10, th_S10, th_L10, th_A11, th_S11, th_L11, th_A12, th_S12, th_L12, th_A13, th_S13, th_L13, th_A14, th_S14, th_L14, th_A15, th_S15, th_L15, th_A16, th_S16, th_L16, th_A17, th_S17, th_L17, hb_some, hbx_inr, hbx_inl, Option.bind_some, iLT_in, iLE_in, iEQ_in, iIN_in, rtZ_in, rtC_in, rtB_in, if_pos, if_neg, x_markPattern]
      rw [show (t.2 0 3 - k).toNat = (t.2 0 3 - (k + 1)).toNat + 1 by omega]
      unfold cnt
      have o1 := x_one (h := TH b t h) (z := true)
      have o0 := x_one (h := TH b t h) (z := false)
      simp only [bZ, if_true, Bool.false_eq_true, if_false] at o1 o0
      by_cases g2 : t.2 0 (456 + 2 * k + 1) = p
      · have := ih (n + 1, k + 1) ⟨by dsimp only; omega, by dsimp only; omega⟩ (by dsimp only; omega)
        simp only [g2, if_true, o1, hb_some, decide_true]
        rw [this, ← Int.add_assoc]
      · have := ih (n + 0, k + 1) ⟨by dsimp only; omega, by dsimp only; omega⟩ (by dsimp only; omega)
        simp only [g2, if_false, o0, hb_some, decide_false, Bool.false_eq_true]
        rw [this, ← Int.add_assoc]
/-- how often a letter is among the first of a row -/
def occ (r : Int → Int) (m c : Int) : Int := cnt (fun k => decide (r k = c)) 0 m.toNat
theorem cnt_snoc {p : Int → Bool} {i : Int} {n : Nat} : cnt p i (n + 1) = cnt p i n + (if p (i + n) then 1 else 0) := by
  induction n generalizing i with
  | zero => simp [cnt]
  | succ n ih =>
    rw [cnt, ih, cnt]
    rw [show i + 1 + (n : Int) = i + ((n : Int) + 1) by omega]
    rw [Int.add_assoc]
    rfl
theorem x_counts0_6 {b : Nat} {t : TS} {h : HP} {fr m : Int} (hf : 0 ≤ fr) (hm : 0 ≤ m) (hr : fr + m ≤ 576) (hl : ∀ k, 0 ≤ k → k < m → 0 ≤ t.2 0 (fr + k) ∧ t.2 0 (fr + k) < 26) : ∃ t', f_X9_counts0 (some (b + 7)) (some (b + 1)) fr m (TH b t h) = some ((), TH b t' h) ∧ t'.1 = t.1 ∧ (∀ j, j ≠ 6 → t'.2 j = t.2 j) ∧
    ∀ c, 0 ≤ c → c < 26 → t'.2 6 c = occ (fun j => t.2 0 (fr + j)) m c := by
  unfold f_X9_counts0 b_X9_counts0_3
  refine fx_FU (bot := fun (_ _ : Option Nat) (_ _ _ : Int) (_ : HP) => (none : Option (Unit × HP))) (body := c_X9_counts0_3)
    (fun F (s : Int × TS) => F (some (b + 7)) (some (b + 1)) fr m s.1 (TH b s.2 h)) (fun s => (0 ≤ s.1 ∧ s.1 ≤ 26) ∧ s.2.1 = t.1 ∧ (∀ j, j ≠ 6 → s.2.2 j = t.2 j) ∧ ∀ c, 0 ≤ c → c < s.1 → s.2.2 6 c = 0) (fun s => (26 - s.1).toNat)
    (fun s v => ∃ t', v = some ((), TH b t' h) ∧ t'.1 = t.1 ∧ (∀ j, j ≠ 6 → t'.2 j = t.2 j) ∧ ∀ c, 0 ≤ c → c < 26 → t'.2 6 c = occ (fun j => t.2 0 (fr + j)) m c) ?_
    (0, t) ⟨⟨by dsimp only; omega, by dsimp only; omega⟩, rfl, fun j hj => rfl, fun c h1 h2 => by dsimp only at h2; omega⟩ (by dsimp only; omega)
  rintro rec ⟨k, u⟩ ⟨⟨h3, h4⟩, h5, h6, h7⟩ ih
  dsimp only at h3 h4 h5 h6 h7 ih ⊢
  unfold c_X9_counts0_3
  simp (discharger := omega) only [th_rcv, th_R0, th_R1, th_R2, th_R3, th_R4, th_R5, th_I6, th_W6, th_I7, th_W7, th_R8, th_R9, th_R10, th_R11, th_I12, th_W12, th_I13, th_W13, th_I14, th_W14, th_I15, th_W15, th_I16, th_W16, th_I17, th_W17, th_I18, th_W18, th_I19, th_W19, th_I20, th_W20, th_I21, th_W21, th_R22, th_R23, th_R24, th_R25, th_R26, th_R27, th_R28, th_I29, th_W29, th_I30, th_W30, th_I31, th_W31, th_R32, th_I33, th_W33, th_A0, th_S0, th_L0, th_A1, th_S1, th_L1, th_A2, th_S2, th_L2, th_A3, th_S3, th_L3, th_A4, th_S4, th_L4, th_A5, th_S5, th_L5, th_A6, th_S6, th_L6, th_A7, th_S7, th_L7, th_A8, th_S8, th_L8, th_A9, th_S9, th_L9, th_A10, th_S10, th_L10, th_A11, th_S11, th_L11, th_A12, th_S12, th_L12, th_A13, th_S13, th_L13, th_A14, th_S14, th_L14, th_A15, th_S15, th_L15, th_A16, th_S16, th_L16, th_A17, th_S17, th_L17, hb_some, hbx_inr, hbx_inl, Option.bind_some, iLT_in, iLE_in, iEQ_in, iIN_in, rtZ_in, rtC_in, rtB_in, if_pos]
  by_cases g : 26 ≤ k
  · rw [if_pos g]
    unfold b_X9_counts0_24
    refine fx_FU (bot := fun (_ _ : Option Nat) (_ _ _ : Int) (_ : HP) => (none : Option (Unit × HP))) (body := c_X9_counts0_24)
      (fun F (s : Nat × TS) => F (some (b + 7)) (some (b + 1)) fr m s.1 (TH b s.2 h)) (fun s => (s.1 : Int) ≤ m ∧ s.2.1 = t.1 ∧ (∀ j, j ≠ 6 → s.2.2 j = t.2 j) ∧ ∀ c, 0 ≤ c → c < 26 → s.2.2 6 c = occ (fun j => t.2 0 (fr + j)) s.1 c) (fun s => (m - s.1).toNat)
      (fun s v => ∃ t', v = some ((), TH b t' h) ∧ t'.1 = t.1 ∧ (∀ j, j ≠ 6 → t'.2 j = t.2 j) ∧ ∀ c, 0 ≤ c → c < 26 → t'.2 6 c = occ (fun j => t.2 0 (fr + j)) m c) ?_
      (0, u) ⟨by dsimp only; omega, h5, h6, fun c h1 h2 => by dsimp only; rw [h7 c h1 (by omega)]; rfl⟩ (by dsimp only; omega)
    clear ih h3 h4 h5 h6 h7 g rec u k
    rintro rec ⟨k, u⟩ ⟨h4, h5, h6, h7⟩ ih
    dsimp only at h4 h5 h6 h7 ih ⊢
    unfold c_X9_counts0_24
    by_cases g : m ≤ k
    · simp (discharger := omega) only [th_rcv, th_R0, th_R1, th_R2, th_R3, th_R4, th_R5, th_I6, th_W6, th_I7, th_W7, th_R8, th_R9, th_R10, th_R11, th_I12, th_W12, th_I13, th_W13, th_I14, th_W14, th_I15, th_W15, th_I16, th_W16, th_I17, th_W17, th_I18, th_W18, th_I19, th_W19, th_I20, th_W20, th_I21, th_W21, th_R22, th_R23, th_R24, th_R25, th_R26, th_R27, th_R28, th_I29, th_W29, th_I30, th_W30, th_I31, th_W31, th_R32, th_I33, th_W33, th_A0, th_S0, th_L0, th_A1, th_S1, th_L1, th_A2, th_S2, th_L2, th_A3, th_S3, th_L3, th_A4, th_S4, th_L4, th_A5, th_S5, th_L5, th_A6, th_S6, th_L6, th_A7, th_S7, th_L7, th_A8, th_S8, th_L8, th_A9, th_S9, th_L9, th_A10, th_S10, th_L10, th_A11, th_S11, th_L11, th_A12, th_S12, th_L12, th_A13, th_S13, th_L13, th_A14, th_S14, th_L14, th_A15, th_S15, th_L15, th_A16, th_S16, th_L16, th_A17, th_S17, th_L17, hb_some, hbx_inr, hbx_inl, Option.bind_some, iLT_in, iLE_in, iEQ_in, iIN_in, rtZ_in, rtC_in, rtB_in, if_pos]
      refine ⟨u, rfl, h5, h6, fun c h1 h2 => ?_⟩
      rw [h7 c h1 h2, show (k : Int) = m by omega]
    · have hk := hl k (by omega) (by omega)
      have e0 : u.2 0 (fr + (k : Int)) = t.2 0 (fr + (k : Int)) := by rw [h6 0 (by omega)]
      simp (discharger := omega) only [th_rcv, th_R0, th_R1, th_R2, th_R3, th_R4, th_R5, th_I6, th_W6, th_I7, th_W7, th_R8, th_R9, th_R10, th_R11, th_I12, th_W12, th_I13, th_W13, th_I14, th_W14, th_I15, th_W15, th_I16, th_W16, th_I17, th_W17, th_I18, th_W18, th_I19, th_W19, th_I20, th_W20, th_I21, th_W21, th_R22, th_R23, th_R24, th_R25, th_R26, th_R27, th_R28, th_I29, th_W29, th_I30, th_W30, th_I31, th_W31, th_R32, th_I33, th_W33, th_A0, th_S0, th_L0, th_A1, th_S1, th_L1, th_A2, th_S2, th_L2, th_A3, th_S3, th_L3, th_A4, th_S4, th_L4, th_A5, th_S5, th_L5, th_A6, th_S6, th_L6, th_A7, th_S7, th_L7, th_A8, th_S8, th_L8, th_A9, th_S9, th_L9, th_A10, th_S10, th_L10, th_A11, th_S11, th_L11, th_A12, th_S12, th_L12, th_A13, th_S13, th_L13, th_A14, th_S14, th_L14, th_A15, th_S15, th_L15, th_A16, th_S16, th_L16, th_A17, th_S17, th_L17, hb_some, hbx_inr, hbx_inl, Option.bind_some, iLT_in, iLE_in, iEQ_in, iIN_in, rtZ_in, rtC_in, rtB_in, if_pos, if_neg, e0]
      refine ih (k + 1, _) ⟨by dsimp only; omega, h5, fun j hj => ?_, fun c h1 h2 => ?_⟩ (by dsimp only; omega)
      · dsimp only; rw [upN_ne hj]; exact h6 j hj
      · dsimp only
        unfold occ
        rw [show ((k + 1 : Nat) : Int).toNat = k + 1 by omega, cnt_snoc]
        have e1 := h7 c h1 h2
        unfold occ at e1
        rw [show ((k : Nat) : Int).toNat = k by omega] at e1
        rw [← e1, Int.zero_add]
        unfold upN
        rw [if_pos rfl]
        by_cases g2 : c = t.2 0 (fr + (k : Int))
        · have g3 : t.2 0 (fr + (k : Int)) = c := g2.symm
          rw [← g2, upI_eq]; simp [g3]
        · rw [upI_ne g2]; simp [Ne.symm g2]
  · rw [if_neg g]
    refine ih (k + 1, _) ⟨⟨by dsimp only; omega, by dsimp only; omega⟩, h5, fun j hj => ?_, fun c h1 h2 => ?_⟩ (by dsimp only; omega)
    · dsimp only; rw [upN_ne hj]; exact h6 j hj
    · dsimp only at h2 ⊢
      unfold upN
      rw [if_pos rfl]
      by_cases g2 : c = k
      · rw [g2, upI_eq]
      · rw [upI_ne g2]; exact h7 c h1 (by omega)
theorem x_counts0_7 {b : Nat} {t : TS} {h : HP} {fr m : Int} (hf : 0 ≤ fr) (hm : 0 ≤ m) (hr : fr + m ≤ 576) (hl : ∀ k, 0 ≤ k → k < m → 0 ≤ t.2 0 (fr + k) ∧ t.2 0 (fr + k) < 26) : ∃ t', f_X9_counts0 (some (b + 8)) (some (b + 1)) fr m (TH b t h) = some ((), TH b t' h) ∧ t'.1 = t.1 ∧ (∀ j, j ≠ 7 → t'.2 j = t.2 j) ∧
    ∀ c, 0 ≤ c → c < 26 → t'.2 7 c = occ (fun j => t.2 0 (fr + j)) m c := by
  unfold f_X9_counts0 b_X9_counts0_3
  refine fx_FU (bot := fun (_ _ : Option Nat) (_ _ _ : Int) (_ : HP) => (none : Option (Unit × HP))) (body := c_X9_counts0_3)
    (fun F (s : Int × TS) => F (some (b + 8)) (some (b + 1)) fr m s.1 (TH b s.2 h)) (fun s => (0 ≤ s.1 ∧ s.1 ≤ 26) ∧ s.2.1 = t.1 ∧ (∀ j, j ≠ 7 → s.2.2 j = t.2 j) ∧ ∀ c, 0 ≤ c → c < s.1 → s.2.2 7 c = 0) (fun s => (26 - s.1).toNat)
    (fun s v => ∃ t', v = some ((), TH b t' h) ∧ t'.1 = t.1 ∧ (∀ j, j ≠ 7 → t'.2 j = t.2 j) ∧ ∀ c, 0 ≤ c → c < 26 → t'.2 7 c = occ (fun j => t.2 0 (fr + j)) m c) ?_
    (0, t) ⟨⟨by dsimp only; omega, by dsimp only; omega⟩, rfl, fun j hj => rfl, fun c h1 h2 => by dsimp only at h2; omega⟩ (by dsimp only; omega)
  rintro rec ⟨k, u⟩ ⟨⟨h3, h4⟩, h5, h6, h7⟩ ih
  dsimp only at h3 h4 h5 h6 h7 ih ⊢
  unfold c_X9_counts0_3
  simp (discharger := omega) only [th_rcv, th_R0, th_R1, th_R2, th_R3, th_R4, th_R5, th_I6, th_W6, th_I7, th_W7, th_R8, th_R9, th_R10, th_R11, th_I12, th_W12, th_I13, th_W13, th_I14, th_W14, th_I15, th_W15, th_I16, th_W16, th_I17, th_W17, th_I18, th_W18, th_I19, th_W19, th_I20, th_W20, th_I21, th_W21, th_R22, th_R23, th_R24, th_R25, th_R26, th_R27, th_R28, th_I29, th_W29, th_I30, th_W30, th_I31, th_W31, th_R32, th_I33, th_W33, th_A0, th_S0, th_L0, th_A1, th_S1, th_L1, th_A2, th_S2, th_L2, th_A3, th_S3, th_L3, th_A4, th_S4, th_L4, th_A5, th_S5, th_L5, th_A6, th_S6, th_L6, th_A7, th_S7, th_L7, th_A8, th_S8, th_L8, th_A9, th_S9, th_L9, th_A10, th_S10, th_L10, th_A11, th_S11, th_L11, th_A12, th_S12, th_L12, th_A13, th_S13, th_L13, th_A14, th_S14, th_L14, th_A15, th_S15, th_L15, th_A16, th_S16, th_L16, th_A17, th_S17, th_L17, hb_some, hbx_inr, hbx_inl, Option.bind_some, iLT_in, iLE_in, iEQ_in, iIN_in, rtZ_in, rtC_in, rtB_in, if_pos]
  by_cases g : 26 ≤ k
  · rw [if_pos g]
    unfold b_X9_counts0_24
    refine fx_FU (bot := fun (_ _ : Option Nat) (_ _ _ : Int) (_ : HP) => (none : Option (Unit × HP))) (body := c_X9_counts0_24)
      (fun F (s : Nat × TS) => F (some (b + 8)) (some (b + 1)) fr m s.1 (TH b s.2 h)) (fun s => (s.1 : Int) ≤ m ∧ s.2.1 = t.1 ∧ (∀ j, j ≠ 7 → s.2.2 j = t.2 j) ∧ ∀ c, 0 ≤ c → c < 26 → s.2.2 7 c = occ (fun j => t.2 0 (fr + j)) s.1 c) (fun s => (m - s.1).toNat)
      (fun s v => ∃ t', v = some ((), TH b t' h) ∧ t'.1 = t.1 ∧ (∀ j, j ≠ 7 → t'.2 j = t.2 j) ∧ ∀ c, 0 ≤ c → c < 26 → t'.2 7 c = occ (fun j => t.2 0 (fr + j)) m c) ?_
      (0, u) ⟨by dsimp only; omega, h5, h6, fun c h1 h2 => by dsimp only; rw [h7 c h1 (by omega)]; rfl⟩ (by dsimp only; omega)
    clear ih h3 h4 h5 h6 h7 g rec u k
    rintro rec ⟨k, u⟩ ⟨h4, h5, h6, h7⟩ ih
    dsimp only at h4 h5 h6 h7 ih ⊢
    unfold c_X9_counts0_24
    by_cases g : m ≤ k
    · simp (discharger := omega) only [th_rcv, th_R0, th_R1, th_R2, th_R3, th_R4, th_R5, th_I6, th_W6, th_I7, th_W7, th_R8, th_R9, th_R10, th_R11, th_I12, th_W12, th_I13, th_W13, th_I14, th_W14, th_I15, th_W15, th_I16, th_W16, th_I17, th_W17, th_I18, th_W18, th_I19, th_W19, th_I20, th_W20, th_I21, th_W21, th_R22, th_R23, th_R24, th_R25, th_R26, th_R27, th_R28, th_I29, th_W29, th_I30, th_W30, th_I31, th_W31, th_R32, th_I33, th_W33, th_A0, th_S0, th_L0, th_A1, th_S1, th_L1, th_A2, th_S2, th_L2, th_A3, th_S3, th_L3, th_A4, th_S4, th_L4, th_A5, th_S5, th_L5, th_A6, th_S6, th_L6, th_A7, th_S7, th_L7, th_A8, th_S8, th_L8, th_A9, th_S9, th_L9, th_A10, th_S10, th_L10, th_A11, th_S11, th_L11, th_A12, th_S12, th_L12, th_A13, th_S13, th_L13, th_A14, th_S14, th_L14, th_A15, th_S15, th_L15, th_A16, th_S16, th_L16, th_A17, th_S17, th_L17, hb_some, hbx_inr, hbx_inl, Option.bind_some, iLT_in, iLE_in, iEQ_in, iIN_in, rtZ_in, rtC_in, rtB_in, if_pos]
      refine ⟨u, rfl, h5, h6, fun c h1 h2 => ?_⟩
      rw [h7 c h1 h2, show (k : Int) = m by omega]
    · have hk := hl k (by omega) (by omega)
      have e0 : u.2 0 (fr + (k : Int)) = t.2 0 (fr + (k : Int)) := by rw [h6 0 (by omega)]
      simp (discharger := omega) only [th_rcv, th_R0, th_R1, th_R2, th_R3, th_R4, th_R5, th_I6, th_W6, th_I7, th_W7, th_R8, th_R9, th_R10, th_R11, th_I12, th_W12, th_I13, th_W13, th_I14, th_W14, th_I15, th_W15, th_I16, th_W16, th_I17, th_W17, th_I18, th_W18, th_I19, th_W19, th_I20, th_W20, th_I21, th_W21, th_R22, th_R23, th_R24, th_R25, th_R26, th_R27, th_R28, th_I29, th_W29, th_I30, th_W30, th_I31, th_W31, th_R32, th_I33, th_W33, th_A0, th_S0, th_L0, th_A1, th_S1, th_L1, th_A2, th_S2, th_L2, th_A3, th_S3, th_L3, th_A4, th_S4, th_L4, th_A5, th_S5, th_L5, th_A6, th_S6, th_L6, th_A7, th_S7, th_L7, th_A8, th_S8, th_L8, th_A9, th_S9, th_L9, th_A10, th_S10, th_L10, th_A11, th_S11, th_L11, th_A12, th_S12, th_L12, th_A13, th_S13, th_L13, th_A14, th_S14, th_L14, th_A15, th_S15, th_L15, th_A16, th_S16, th_L16, th_A17, th_S17, th_L17, hb_some, hbx_inr, hbx_inl, Option.bind_some, iLT_in, iLE_in, iEQ_in, iIN_in, rtZ_in, rtC_in, rtB_in, if_pos, if_neg, e0]
      refine ih (k + 1, _) ⟨by dsimp only; omega, h5, fun j hj => ?_, fun c h1 h2 => ?_⟩ (by dsimp only; omega)
      · dsimp only; rw [upN_ne hj]; exact h6 j hj
      · dsimp only
        unfold occ
        rw [show ((k + 1 : Nat) : Int).toNat = k + 1 by omega, cnt_snoc]
        have e1 := h7 c h1 h2
        unfold occ at e1
        rw [show ((k : Nat) : Int).toNat = k by omega] at e1
        rw [← e1, Int.zero_add]
        unfold upN
        rw [if_pos rfl]
        by_cases g2 : c = t.2 0 (fr + (k : Int))
        · have g3 : t.2 0 (fr + (k : Int)) = c := g2.symm
          rw [← g2, upI_eq]; simp [g3]
        · rw [upI_ne g2]; simp [Ne.symm g2]
  · rw [if_neg g]
    refine ih (k + 1, _) ⟨⟨by dsimp only; omega, by dsimp only; omega⟩, h5, fun j hj => ?_, fun c h1 h2 => ?_⟩ (by dsimp only; omega)
    · dsimp only; rw [upN_ne hj]; exact h6 j hj
    · dsimp only at h2 ⊢
      unfold upN
      rw [if_pos rfl]
      by_cases g2 : c = k
      · rw [g2, upI_eq]
      · rw [upI_ne g2]; exact h7 c h1 (by omega)
