/-! STAGE 2c: the reference: rows of letters. -/
set_option maxRecDepth 100000
/-- by how many places the same letter stood ahead; 0 if it did not -/
def bk (r : Int → Int) (k : Int) : Int := match fnd (fun z => decide (r (k - z) = r k)) 1 k.toNat with
  | some i => i
  | none => 0
def bf (r : Int → Int) (fm k : Int) : Int := if r k < fm then 0 else bk r k
def sg (r : Int → Int) (fm k : Int) : Int := if r k < fm then -1 - r k else bk r k
def al (r s : Int → Int) (fm m : Int) : Int := match fnd (fun k => decide (sg r fm k ≠ sg s fm k)) 0 m.toNat with
  | some i => i
  | none => m
theorem bk_le {r : Int → Int} {k : Int} (h : 0 ≤ k) : 0 ≤ bk r k ∧ bk r k ≤ k := by
  unfold bk
  cases e : fnd (fun z => decide (r (k - z) = r k)) 1 k.toNat with
  | none => exact ⟨Int.le_refl _, h⟩
  | some i =>
    obtain ⟨h1, h2, -⟩ := fnd_some e
    dsimp only
    omega
theorem al_le {r s : Int → Int} {fm m : Int} (h : 0 ≤ m) : 0 ≤ al r s fm m ∧ al r s fm m ≤ m := by
  unfold al
  cases e : fnd (fun k => decide (sg r fm k ≠ sg s fm k)) 0 m.toNat with
  | none => exact ⟨h, Int.le_refl _⟩
  | some i =>
    obtain ⟨h1, h2, -⟩ := fnd_some e
    dsimp only
    omega
theorem iEQ_bZ {α : Type} {b : Bool} {x y : Option α} : iEQ (bZ b) 0 x y = if b = true then y else x := by
  cases b <;> simp [bZ, iEQ]
theorem bZ_in (b : Bool) : inR (bZ b) := by cases b <;> (unfold bZ; simp only [if_true, Bool.false_eq_true, if_false]; exact ⟨by omega, by omega⟩)
/-- the reference's numbers fit -/
def tIn (t : TS) : Prop := ∀ i, i < 4 ∨ 12 ≤ i → -1000000 ≤ t.2 0 i ∧ t.2 0 i ≤ 1000000
theorem x_isFirm {b : Nat} {t : TS} {h : HP} {c : Int} (ht : tIn t) (hc : inR c) : f_X9_isFirm b c (TH b t h) = some (bZ (decide (c < t.2 0 0)), TH b t h) := by
  have h0 := ht 0 (by omega)
  unfold f_X9_isFirm
  simp (discharger := omega) only [th_rcv, th_R0, th_R1, th_R2, th_R3, th_R4, th_R5, th_I6, th_W6, th_I7, th_W7, th_R8, th_R9, th_R10, th_R11, th_I12, th_W12, th_I13, th_W13, th_I14, th_W14, th_I15, th_W15, th_I16, th_W16, th_I17, th_W17, th_I18, th_W18, th_I19, th_W19, th_I20, th_W20, th_I21, th_W21, th_R22, th_R23, th_R24, th_R25, th_R26, th_R27, th_R28, th_I29, th_W29, th_I30, th_W30, th_I31, th_W31, th_R32, th_I33, th_W33, th_A0, th_S0, th_L0, th_A1, th_S1, th_L1, th_A2, th_S2, th_L2, th_A3, th_S3, th_L3, th_A4, th_S4, th_L4, th_A5, th_S5, th_L5, th_A6, th_S6, th_L6, th_A7, th_S7, th_L7, th_A8, th_S8, th_L8, th_A9, th_S9, th_L9, th_A10, th_S10, th_L10, th_A11, th_S11, th_L11, th_A12, th_S12, th_L12, th_A13, th_S13, th_L13, th_A14, th_S14, th_L14, th_A15, th_S15, th_L15, th_A16, th_S16, th_L16, th_A17, th_S17, th_L17, hb_some, hbx_inr, hbx_inl, Option.bind_some, iLT_in, iLE_in, iEQ_in, iIN_in, rtZ_in, rtC_in, rtB_in, if_pos]
  by_cases g : c < t.2 0 0
  · rw [if_neg (by omega)]
    simp [g, bZ, b_X9_isFirm_15, rtZ]
  · rw [if_pos (by omega)]
    simp [g, bZ, b_X9_isFirm_15, rtZ]
theorem x_backOf_l {b : Nat} {t : TS} {h : HP} {from' place : Int} (ht : tIn t) (hf : 12 ≤ from') (hp : 0 ≤ place) (hr : from' + place < 576) :
    b_X9_backOf_22 (some b) from' place (t.2 0 (from' + place)) 1 (TH b t h) = some (bk (fun j => t.2 0 (from' + j)) place, TH b t h) := by
  unfold b_X9_backOf_22
  have key := fx_FU (bot := fun (_ : Option Nat) (_ _ _ _ : Int) (_ : HP) => (none : Option (Int × HP))) (body := c_X9_backOf_22)
    (fun F (k : Int) => F (some b) from' place (t.2 0 (from' + place)) k (TH b t h)) (fun k => 1 ≤ k ∧ k ≤ place + 1) (fun k => (place + 1 - k).toNat)
    (fun k v => v = some ((match fnd (fun z => decide (t.2 0 (from' + (place - z)) = t.2 0 (from' + place))) k (place + 1 - k).toNat with
      | some i => i
      | none => 0), TH b t h)) ?_ 1 ⟨by omega, by omega⟩ (by omega)
  · rw [key]
    unfold bk
    rw [show (place + 1 - 1).toNat = place.toNat by omega]
  · rintro rec k ⟨h1, h2⟩ ih
    have e2 := ht (from' + place) (by omega)
    unfold c_X9_backOf_22
    by_cases g : place < k
    · rw [show k = place + 1 by omega]
      simp (discharger := omega) only [th_rcv, th_R0, th_R1, th_R2, th_R3, th_R4, th_R5, th_I6, th_W6, th_I7, th_W7, th_R8, th_R9, th_R10, th_R11, th_I12, th_W12, th_I13, th_W13, th_I14, th_W14, th_I15, th_W15, th_I16, th_W16, th_I17, th_W17, th_I18, th_W18, th_I19, th_W19, th_I20, th_W20, th_I21, th_W21, th_R22, th_R23, th_R24, th_R25, th_R26, th_R27, th_R28, th_I29, th_W29, th_I30, th_W30, th_I31, th_W31, th_R32, th_I33, th_W33, th_A0, th_S0, th_L0, th_A1, th_S1, th_L1, th_A2, th_S2, th_L2, th_A3, th_S3, th_L3, th_A4, th_S4, th_L4, th_A5, th_S5, th_L5, th_A6, th_S6, th_L6, th_A7, th_S7, th_L7, th_A8, th_S8, th_L8, th_A9, th_S9, th_L9, th_A10, th_S10, th_L10, th_A11, th_S11, th_L11, th_A12, th_S12, th_L12, th_A13, th_S13, th_L13, th_A14, th_S14, th_L14, th_A15, th_S15, th_L15, th_A16, th_S16, th_L16, th_A17, th_S17, th_L17, hb_some, hbx_inr, hbx_inl, Option.bind_some, iLT_in, iLE_in, iEQ_in, iIN_in, rtZ_in, rtC_in, rtB_in, if_pos]
      rw [show (place + 1 - (place + 1)).toNat = 0 by omega]
      rfl
    · have e1 := ht (from' + place - k) (by omega)
      simp (discharger := omega) only [th_rcv, th_R0, th_R1, th_R2, th_R3, th_R4, th_R5, th_I6, th_W6, th_I7, th_W7, th_R8, th_R9, th_R10, th_R11, th_I12, th_W12, th_I13, th_W13, th_I14, th_W14, th_I15, th_W15, th_I16, th_W16, th_I17, th_W17, th_I18, th_W18, th_I19, th_W19, th_I20, th_W20, th_I21, th_W21, th_R22, th_R23, th_R24, th_R25, th_R26, th_R27, th_R28, th_I29, th_W29, th_I30, th_W30, th_I31, th_W31, th_R32, th_I33, th_W33, th_A0, th_S0, th_L0, th_A1, th_S1, th_L1, th_A2, th_S2, th_L2, th_A3, th_S3, th_L3, th_A4, th_S4, th_L4, th_A5, th_S5, th_L5, th_A6, th_S6, th_L6, th_A7, th_S7, th_L7, th_A8, th_S8, th_L8, th_A9, th_S9, th_L9, th_A10, th_S10, th_L10, th_A11, th_S11, th_L11, th_A12, th_S12, th_L12, th_A13, th_S13, th_L13, th_A14, th_S14, th_L14, th_A15, th_S15, th_L15, th_A16, th_S16, th_L16, th_A17, th_S17, th_L17, hb_some, hbx_inr, hbx_inl, Option.bind_some, iLT_in, iLE_in, iEQ_in, iIN_in, rtZ_in, rtC_in, rtB_in, if_pos, if_neg]
      rw [show (place + 1 - k).toNat = (place + 1 - (k + 1)).toNat + 1 by omega]
      unfold fnd
      rw [show from' + (place - k) = from' + place - k by omega]
      by_cases g2 : t.2 0 (from' + place - k) = t.2 0 (from' + place)
      · simp [g2]
      · have := ih (k + 1) ⟨by omega, by omega⟩ (by omega)
        simp only [g2, if_false, decide_false, Bool.false_eq_true]
        exact this
theorem x_backOf {b : Nat} {t : TS} {h : HP} {from' place : Int} (ht : tIn t) (hf : 12 ≤ from') (hp : 0 ≤ place) (hr : from' + place < 576) :
    f_X9_backOf b from' place (TH b t h) = some (bf (fun j => t.2 0 (from' + j)) (t.2 0 0) place, TH b t h) := by
  have e2 := ht (from' + place) (by omega)
  have e0 := ht 0 (by omega)
  unfold f_X9_backOf bf
  simp (discharger := omega) only [th_rcv, th_R0, th_R1, th_R2, th_R3, th_R4, th_R5, th_I6, th_W6, th_I7, th_W7, th_R8, th_R9, th_R10, th_R11, th_I12, th_W12, th_I13, th_W13, th_I14, th_W14, th_I15, th_W15, th_I16, th_W16, th_I17, th_W17, th_I18, th_W18, th_I19, th_W19, th_I20, th_W20, th_I21, th_W21, th_R22, th_R23, th_R24, th_R25, th_R26, th_R27, th_R28, th_I29, th_W29, th_I30, th_W30, th_I31, th_W31, th_R32, th_I33, th_W33, th_A0, th_S0, th_L0, th_A1, th_S1, th_L1, th_A2, th_S2, th_L2, th_A3, th_S3, th_L3, th_A4, th_S4, th_L4, th_A5, th_S5, th_L5, th_A6, th_S6, th_L6, th_A7, th_S7, th_L7, th_A8, th_S8, th_L8, th_A9, th_S9, th_L9, th_A10, th_S10, th_L10, th_A11, th_S11, th_L11, th_A12, th_S12, th_L12, th_A13, th_S13, th_L13, th_A14, th_S14, th_L14, th_A15, th_S15, th_L15, th_A16, th_S16, th_L16, th_A17, th_S17, th_L17, hb_some, hbx_inr, hbx_inl, Option.bind_some, iLT_in, iLE_in, iEQ_in, iIN_in, rtZ_in, rtC_in, rtB_in, if_pos, x_isFirm ht]
  by_cases g : t.2 0 (from' + place) < t.2 0 0
  · simp [g, bZ, iEQ]
  · simp only [g, bZ, decide_false, Bool.false_eq_true, if_false, iEQ]
    rw [if_pos (by omega), if_pos trivial]
    exact x_backOf_l ht hf hp hr
theorem x_signOf {b : Nat} {t : TS} {h : HP} {from' place : Int} (ht : tIn t) (hf : 12 ≤ from') (hp : 0 ≤ place) (hr : from' + place < 576) :
    f_X9_signOf b from' place (TH b t h) = some (sg (fun j => t.2 0 (from' + j)) (t.2 0 0) place, TH b t h) := by
  have e2 := ht (from' + place) (by omega)
  have e0 := ht 0 (by omega)
  unfold f_X9_signOf sg
  simp (discharger := omega) only [th_rcv, th_R0, th_R1, th_R2, th_R3, th_R4, th_R5, th_I6, th_W6, th_I7, th_W7, th_R8, th_R9, th_R10, th_R11, th_I12, th_W12, th_I13, th_W13, th_I14, th_W14, th_I15, th_W15, th_I16, th_W16, th_I17, th_W17, th_I18, th_W18, th_I19, th_W19, th_I20, th_W20, th_I21, th_W21, th_R22, th_R23, th_R24, th_R25, th_R26, th_R27, th_R28, th_I29, th_W29, th_I30, th_W30, th_I31, th_W31, th_R32, th_I33, th_W33, th_A0, th_S0, th_L0, th_A1, th_S1, th_L1, th_A2, th_S2, th_L2, th_A3, th_S3, th_L3, th_A4, th_S4, th_L4, th_A5, th_S5, th_L5, th_A6, th_S6, th_L6, th_A7, th_S7, th_L7, th_A8, th_S8, th_L8, th_A9, th_S9, th_L9, th_A10, th_S10, th_L10, th_A11, th_S11, th_L11, th_A12, th_S12, th_L12, th_A13, th_S13, th_L13, th_A14, th_S14, th_L14, th_A15, th_S15, th_L15, th_A16, th_S16, th_L16, th_A17, th_S17, th_L17, hb_some, hbx_inr, hbx_inl, Option.bind_some, iLT_in, iLE_in, iEQ_in, iIN_in, rtZ_in, rtC_in, rtB_in, if_pos, x_isFirm ht, x_backOf ht, b_X9_signOf_34]
  by_cases g : t.2 0 (from' + place) < t.2 0 0
  · simp [g, bZ, iEQ]
  · simp [g, bZ, iEQ, bf]
theorem sg_in {r : Int → Int} {fm k : Int} (h : -1000000 ≤ r k ∧ r k ≤ 1000000) (hk : 0 ≤ k) (h2 : k ≤ 1000000) : inR (sg r fm k) := by
  have := bk_le (r := r) hk
  unfold sg
  by_cases g : r k < fm
  · rw [if_pos g]; omega
  · rw [if_neg g]; omega
theorem x_alikeFrom {b : Nat} {t : TS} {h : HP} {one two m : Int} (ht : tIn t) (h1 : 12 ≤ one) (h2 : 12 ≤ two) (hm : 0 ≤ m) (hr1 : one + m ≤ 576) (hr2 : two + m ≤ 576) :
    f_X9_alikeFrom b one two m (TH b t h) = some (al (fun j => t.2 0 (one + j)) (fun j => t.2 0 (two + j)) (t.2 0 0) m, TH b t h) := by
  unfold f_X9_alikeFrom b_X9_alikeFrom_3
  have key := fx_FU (bot := fun (_ : Option Nat) (_ _ _ _ : Int) (_ : HP) => (none : Option (Int × HP))) (body := c_X9_alikeFrom_3)
    (fun F (k : Int) => F (some b) one two m k (TH b t h)) (fun k => 0 ≤ k ∧ k ≤ m) (fun k => (m - k).toNat)
    (fun k v => v = some ((match fnd (fun k => decide (sg (fun j => t.2 0 (one + j)) (t.2 0 0) k ≠ sg (fun j => t.2 0 (two + j)) (t.2 0 0) k)) k (m - k).toNat with
      | some i => i
      | none => m), TH b t h)) ?_ 0 ⟨by omega, by omega⟩ (by omega)
  · rw [key]
    unfold al
    rw [show (m - 0).toNat = m.toNat by omega]
  · rintro rec k ⟨h3, h4⟩ ih
    have e1 := ht (one + k) (by omega)
    have e2 := ht (two + k) (by omega)
    unfold c_X9_alikeFrom_3 b_X9_alikeFrom_32
    by_cases g : m ≤ k
    · rw [show k = m by omega]
      simp (discharger := omega) only [th_rcv, th_R0, th_R1, th_R2, th_R3, th_R4, th_R5, th_I6, th_W6, th_I7, th_W7, th_R8, th_R9, th_R10, th_R11, th_I12, th_W12, th_I13, th_W13, th_I14, th_W14, th_I15, th_W15, th_I16, th_W16, th_I17, th_W17, th_I18, th_W18, th_I19, th_W19, th_I20, th_W20, th_I21, th_W21, th_R22, th_R23, th_R24, th_R25, th_R26, th_R27, th_R28, th_I29, th_W29, th_I30, th_W30, th_I31, th_W31, th_R32, th_I33, th_W33, th_A0, th_S0, th_L0, th_A1, th_S1, th_L1, th_A2, th_S2, th_L2, th_A3, th_S3, th_L3, th_A4, th_S4, th_L4, th_A5, th_S5, th_L5, th_A6, th_S6, th_L6, th_A7, th_S7, th_L7, th_A8, th_S8, th_L8, th_A9, th_S9, th_L9, th_A10, th_S10, th_L10, th_A11, th_S11, th_L11, th_A12, th_S12, th_L12, th_A13, th_S13, th_L13, th_A14, th_S14, th_L14, th_A15, th_S15, th_L15, th_A16, th_S16, th_L16, th_A17, th_S17, th_L17, hb_some, hbx_inr, hbx_inl, Option.bind_some, iLT_in, iLE_in, iEQ_in, iIN_in, rtZ_in, rtC_in, rtB_in, if_pos]
      rw [show (m - m).toNat = 0 by omega]
      rfl
    · simp (discharger := omega) only [th_rcv, th_R0, th_R1, th_R2, th_R3, th_R4, th_R5, th_I6, th_W6, th_I7, th_W7, th_R8, th_R9, th_R10, th_R11, th_I12, th_W12, th_I13, th_W13, th_I14, th_W14, th_I15, th_W15, th_I16, th_W16, th_I17, th_W17, th_I18, th_W18, th_I19, th_W19, th_I20, th_W20, th_I21, th_W21, th_R22, th_R23, th_R24, th_R25, th_R26, th_R27, th_R28, th_I29, th_W29, th_I30, th_W30, th_I31, th_W31, th_R32, th_I33, th_W33, th_A0, th_S0, th_L0, th_A1, th_S1, th_L1, th_A2, th_S2, th_L2, th_A3, th_S3, th_L3, th_A4, th_S4, th_L4, th_A5, th_S5, th_L5, th_A6, th_S6, th_L6, th_A7, th_S7, th_L7, th_A8, th_S8, th_L8, th_A9, th_S9, th_L9, th_A10, th_S10, th_L10, th_A11, th_S11, th_L11, th_A12, th_S12, th_L12, th_A13, th_S13, th_L13, th_A14, th_S14, th_L14, th_A15, th_S15, th_L15, th_A16, th_S16, th_L16, th_A17, th_S17, th_L17, hb_some, hbx_inr, hbx_inl, Option.bind_some, iLT_in, iLE_in, iEQ_in, iIN_in, rtZ_in, rtC_in, rtB_in, if_pos, if_neg, x_signOf ht]
      rw [iEQ_in (sg_in (r := fun j => t.2 0 (one + j)) (k := k) e1 h3 (by omega)) (sg_in (r := fun j => t.2 0 (two + j)) (k := k) e2 h3 (by omega))]
      rw [show (m - k).toNat = (m - (k + 1)).toNat + 1 by omega]
      unfold fnd
      by_cases g2 : sg (fun j => t.2 0 (one + j)) (t.2 0 0) k = sg (fun j => t.2 0 (two + j)) (t.2 0 0) k
      · have := ih (k + 1) ⟨by omega, by omega⟩ (by omega)
        rw [if_pos g2]
        simp only [g2, ne_eq, not_true_eq_false, decide_false, Bool.false_eq_true, if_false]
        exact this
      · simp [g2]
theorem x_areAlike {b : Nat} {t : TS} {h : HP} {one two m : Int} (ht : tIn t) (h1 : 12 ≤ one) (h2 : 12 ≤ two) (hm : 0 ≤ m) (hr1 : one + m ≤ 576) (hr2 : two + m ≤ 576) :
    f_X9_areAlike b one two m (TH b t h) = some (bZ (decide (al (fun j => t.2 0 (one + j)) (fun j => t.2 0 (two + j)) (t.2 0 0) m = m)), TH b t h) := by
  have e := al_le (r := fun j => t.2 0 (one + j)) (s := fun j => t.2 0 (two + j)) (fm := t.2 0 0) hm
  unfold f_X9_areAlike b_X9_areAlike_16
  simp (discharger := omega) only [th_rcv, th_R0, th_R1, th_R2, th_R3, th_R4, th_R5, th_I6, th_W6, th_I7, th_W7, th_R8, th_R9, th_R10, th_R11, th_I12, th_W12, th_I13, th_W13, th_I14, th_W14, th_I15, th_W15, th_I16, th_W16, th_I17, th_W17, th_I18, th_W18, th_I19, th_W19, th_I20, th_W20, th_I21, th_W21, th_R22, th_R23, th_R24, th_R25, th_R26, th_R27, th_R28, th_I29, th_W29, th_I30, th_W30, th_I31, th_W31, th_R32, th_I33, th_W33, th_A0, th_S0, th_L0, th_A1, th_S1, th_L1, th_A2, th_S2, th_L2, th_A3, th_S3, th_L3, th_A4, th_S4, th_L4, th_A5, th_S5, th_L5, th_A6, th_S6, th_L6, th_A7, th_S7, th_L7, th_A8, th_S8, th_L8, th_A9, th_S9, th_L9, th_A10, th_S10, th_L10, th_A11, th_S11, th_L11, th_A12, th_S12, th_L12, th_A13, th_S13, th_L13, th_A14, th_S14, th_L14, th_A15, th_S15, th_L15, th_A16, th_S16, th_L16, th_A17, th_S17, th_L17, hb_some, hbx_inr, hbx_inl, Option.bind_some, iLT_in, iLE_in, iEQ_in, iIN_in, rtZ_in, rtC_in, rtB_in, if_pos, x_alikeFrom ht]
  by_cases g : al (fun j => t.2 0 (one + j)) (fun j => t.2 0 (two + j)) (t.2 0 0) m = m
  · simp [g, bZ]
  · simp [g, bZ]
/-- rows of the reference's state -/
def tx (t : TS) (q : Int) : Int → Int := fun j => t.2 0 (16 + q + j)
def pt (t : TS) (p : Int) : Int → Int := fun j => t.2 0 (216 + 30 * p + 10 + j)
def ln (t : TS) (p : Int) : Int := t.2 0 (216 + 30 * p)
/-- how the numbers of the reference's row lie -/
def tOK (t : TS) : Prop := tIn t ∧ (0 ≤ t.2 0 0 ∧ t.2 0 0 ≤ 26) ∧ (1 ≤ t.2 0 1 ∧ t.2 0 1 ≤ 200) ∧ (0 ≤ t.2 0 2 ∧ t.2 0 2 ≤ 8) ∧ (0 ≤ t.2 0 3 ∧ t.2 0 3 ≤ 60) ∧
  (∀ p, 0 ≤ p → p < t.2 0 2 → 1 ≤ ln t p ∧ ln t p ≤ 20)
def mt (t : TS) (p q : Int) : Int := al (pt t p) (tx t q) (t.2 0 0) (min (ln t p) (t.2 0 1 - q))
def there (t : TS) (p q : Int) : Bool := decide (q < t.2 0 1 ∧ mt t p q = ln t p)
theorem x_of {b : Nat} {t : TS} {h : HP} {p k : Int} (h1 : 0 ≤ p) (h2 : p < 8) (h3 : 0 ≤ k) (h4 : k < 30) : f_X9_of b p k (TH b t h) = some (t.2 0 (216 + 30 * p + k), TH b t h) := by
  unfold f_X9_of
  simp (discharger := omega) only [th_rcv, th_R0, th_R1, th_R2, th_R3, th_R4, th_R5, th_I6, th_W6, th_I7, th_W7, th_R8, th_R9, th_R10, th_R11, th_I12, th_W12, th_I13, th_W13, th_I14, th_W14, th_I15, th_W15, th_I16, th_W16, th_I17, th_W17, th_I18, th_W18, th_I19, th_W19, th_I20, th_W20, th_I21, th_W21, th_R22, th_R23, th_R24, th_R25, th_R26, th_R27, th_R28, th_I29, th_W29, th_I30, th_W30, th_I31, th_W31, th_R32, th_I33, th_W33, th_A0, th_S0, th_L0, th_A1, th_S1, th_L1, th_A2, th_S2, th_L2, th_A3, th_S3, th_L3, th_A4, th_S4, th_L4, th_A5, th_S5, th_L5, th_A6, th_S6, th_L6, th_A7, th_S7, th_L7, th_A8, th_S8, th_L8, th_A9, th_S9, th_L9, th_A10, th_S10, th_L10, th_A11, th_S11, th_L11, th_A12, th_S12, th_L12, th_A13, th_S13, th_L13, th_A14, th_S14, th_L14, th_A15, th_S15, th_L15, th_A16, th_S16, th_L16, th_A17, th_S17, th_L17, hb_some, hbx_inr, hbx_inl, Option.bind_some, iLT_in, iLE_in, iEQ_in, iIN_in, rtZ_in, rtC_in, rtB_in, if_pos]
theorem x_min {a c : Int} {h : HP} (h1 : inR a) (h2 : inR c) : f_J14_min a c h = some (min a c, h) := by
  unfold f_J14_min b_J14_min_10
  rw [iLT_in h2 h1]
  by_cases g : c < a
  · rw [if_pos g, Int.min_eq_right (by omega)]
  · rw [if_neg g, Int.min_eq_left (by omega)]
theorem x_max {a c : Int} {h : HP} (h1 : inR a) (h2 : inR c) : f_J14_max a c h = some (max a c, h) := by
  unfold f_J14_max b_J14_max_10
  rw [iLT_in h1 h2]
  by_cases g : a < c
  · rw [if_pos g, Int.max_eq_right (by omega)]
  · rw [if_neg g, Int.max_eq_left (by omega)]
theorem x_matched {b : Nat} {t : TS} {h : HP} {p q : Int} (ht : tOK t) (h1 : 0 ≤ p) (h2 : p < t.2 0 2) (h3 : 0 ≤ q) (h4 : q ≤ t.2 0 1) : f_X9_matched b p q (TH b t h) = some (mt t p q, TH b t h) := by
  obtain ⟨k1, k2, k3, k4, k5, k6⟩ := ht
  have k7 := k6 p h1 h2
  unfold ln at k7
  unfold f_X9_matched f_X9_patternFrom f_X9_textFrom mt ln
  simp (discharger := omega) only [th_rcv, th_R0, th_R1, th_R2, th_R3, th_R4, th_R5, th_I6, th_W6, th_I7, th_W7, th_R8, th_R9, th_R10, th_R11, th_I12, th_W12, th_I13, th_W13, th_I14, th_W14, th_I15, th_W15, th_I16, th_W16, th_I17, th_W17, th_I18, th_W18, th_I19, th_W19, th_I20, th_W20, th_I21, th_W21, th_R22, th_R23, th_R24, th_R25, th_R26, th_R27, th_R28, th_I29, th_W29, th_I30, th_W30, th_I31, th_W31, th_R32, th_I33, th_W33, th_A0, th_S0, th_L0, th_A1, th_S1, th_L1, th_A2, th_S2, th_L2, th_A3, th_S3, th_L3, th_A4, th_S4, th_L4, th_A5, th_S5, th_L5, th_A6, th_S6, th_L6, th_A7, th_S7, th_L7, th_A8, th_S8, th_L8, th_A9, th_S9, th_L9, th_A10, th_S10, th_L10, th_A11, th_S11, th_L11, th_A12, th_S12, th_L12, th_A13, th_S13, th_L13, th_A14, th_S14, th_L14, th_A15, th_S15, th_L15, th_A16, th_S16, th_L16, th_A17, th_S17, th_L17, hb_some, hbx_inr, hbx_inl, Option.bind_some, iLT_in, iLE_in, iEQ_in, iIN_in, rtZ_in, rtC_in, rtB_in, if_pos, x_of, Int.add_zero, x_min, x_alikeFrom k1]
  rfl
theorem mt_le {t : TS} {p q : Int} (ht : tOK t) (h1 : 0 ≤ p) (h2 : p < t.2 0 2) (h4 : q ≤ t.2 0 1) : 0 ≤ mt t p q ∧ mt t p q ≤ ln t p ∧ mt t p q ≤ t.2 0 1 - q := by
  have k7 := ht.2.2.2.2.2 p h1 h2
  have := al_le (r := pt t p) (s := tx t q) (fm := t.2 0 0) (m := min (ln t p) (t.2 0 1 - q)) (by omega)
  unfold mt
  omega
theorem x_isThere {b : Nat} {t : TS} {h : HP} {p q : Int} (ht : tOK t) (h1 : 0 ≤ p) (h2 : p < t.2 0 2) (h3 : 0 ≤ q) (h4 : q < 1000) : f_X9_isThere b p q (TH b t h) = some (bZ (there t p q), TH b t h) := by
  have hh := ht
  obtain ⟨k1, k2, k3, k4, k5, k6⟩ := ht
  have k7 := k6 p h1 h2
  unfold f_X9_isThere b_X9_isThere_29 b_X9_isThere_30 there
  by_cases g : q < t.2 0 1
  · have k8 := mt_le (q := q) hh h1 h2 (by omega)
    have k9 : ln t p = t.2 0 (216 + 30 * p + 0) := by unfold ln; rw [Int.add_zero]
    simp (discharger := omega) only [th_rcv, th_R0, th_R1, th_R2, th_R3, th_R4, th_R5, th_I6, th_W6, th_I7, th_W7, th_R8, th_R9, th_R10, th_R11, th_I12, th_W12, th_I13, th_W13, th_I14, th_W14, th_I15, th_W15, th_I16, th_W16, th_I17, th_W17, th_I18, th_W18, th_I19, th_W19, th_I20, th_W20, th_I21, th_W21, th_R22, th_R23, th_R24, th_R25, th_R26, th_R27, th_R28, th_I29, th_W29, th_I30, th_W30, th_I31, th_W31, th_R32, th_I33, th_W33, th_A0, th_S0, th_L0, th_A1, th_S1, th_L1, th_A2, th_S2, th_L2, th_A3, th_S3, th_L3, th_A4, th_S4, th_L4, th_A5, th_S5, th_L5, th_A6, th_S6, th_L6, th_A7, th_S7, th_L7, th_A8, th_S8, th_L8, th_A9, th_S9, th_L9, th_A10, th_S10, th_L10, th_A11, th_S11, th_L11, th_A12, th_S12, th_L12, th_A13, th_S13, th_L13, th_A14, th_S14, th_L14, th_A15, th_S15, th_L15, th_A16, th_S16, th_L16, th_A17, th_S17, th_L17, hb_some, hbx_inr, hbx_inl, Option.bind_some, iLT_in, iLE_in, iEQ_in, iIN_in, rtZ_in, rtC_in, rtB_in, if_pos, x_of, x_matched hh, if_neg, ← k9]
    by_cases g2 : mt t p q = ln t p
    · simp [g, g2, bZ]
    · simp [g, g2, bZ]
  · simp (discharger := omega) only [th_rcv, th_R0, th_R1, th_R2, th_R3, th_R4, th_R5, th_I6, th_W6, th_I7, th_W7, th_R8, th_R9, th_R10, th_R11, th_I12, th_W12, th_I13, th_W13, th_I14, th_W14, th_I15, th_W15, th_I16, th_W16, th_I17, th_W17, th_I18, th_W18, th_I19, th_W19, th_I20, th_W20, th_I21, th_W21, th_R22, th_R23, th_R24, th_R25, th_R26, th_R27, th_R28, th_I29, th_W29, th_I30, th_W30, th_I31, th_W31, th_R32, th_I33, th_W33, th_A0, th_S0, th_L0, th_A1, th_S1, th_L1, th_A2, th_S2, th_L2, th_A3, th_S3, th_L3, th_A4, th_S4, th_L4, th_A5, th_S5, th_L5, th_A6, th_S6, th_L6, th_A7, th_S7, th_L7, th_A8, th_S8, th_L8, th_A9, th_S9, th_L9, th_A10, th_S10, th_L10, th_A11, th_S11, th_L11, th_A12, th_S12, th_L12, th_A13, th_S13, th_L13, th_A14, th_S14, th_L14, th_A15, th_S15, th_L15, th_A16, th_S16, th_L16, th_A17, th_S17, th_L17, hb_some, hbx_inr, hbx_inl, Option.bind_some, iLT_in, iLE_in, iEQ_in, iIN_in, rtZ_in, rtC_in, rtB_in, if_pos]
    simp [g, bZ]
theorem x_one {h : HP} {z : Bool} : f_X9_one (bZ z) h = some (bZ z, h) := by
  unfold f_X9_one b_X9_one_9
  rw [iEQ_bZ]
  cases z <;> simp [bZ]
def hits (t : TS) (p : Int) : Int := cnt (fun q => there t p q) 0 (t.2 0 1).toNat
theorem x_hits {b : Nat} {t : TS} {h : HP} {p : Int} (ht : tOK t) (h1 : 0 ≤ p) (h2 : p < t.2 0 2) : f_X9_hits b p (TH b t h) = some (hits t p, TH b t h) := by
  have hh := ht
  obtain ⟨k1, k2, k3, k4, k5, k6⟩ := ht
  unfold f_X9_hits b_X9_hits_4
  have key := fx_FU (bot := fun (_ : Option Nat) (_ _ _ : Int) (_ : HP) => (none : Option (Int × HP))) (body := c_X9_hits_4)
    (fun F (s : Int × Int) => F (some b) p s.1 s.2 (TH b t h)) (fun s => 0 ≤ s.2 ∧ s.2 ≤ t.2 0 1) (fun s => (t.2 0 1 - s.2).toNat)
    (fun s v => v = some (s.1 + cnt (fun q => there t p q) s.2 (t.2 0 1 - s.2).toNat, TH b t h)) ?_ (0, 0) ⟨by omega, by dsimp only; omega⟩ (by dsimp only; omega)
  · dsimp only at key
    rw [key]
    unfold hits
    rw [Int.zero_add, Int.sub_zero]
  · rintro rec ⟨n, k⟩ ⟨h3, h4⟩ ih
    dsimp only at h3 h4 ih ⊢
    unfold c_X9_hits_4
    by_cases g : t.2 0 1 ≤ k
    · rw [show k = t.2 0 1 by omega]
      simp (discharger := omega) only [th_rcv, th_R0, th_R1, th_R2, th_R3, th_R4, th_R5, th_I6, th_W6, th_I7, th_W7, th_R8, th_R9, th_R10, th_R11, th_I12, th_W12, th_I13, th_W13, th_I14, th_W14, th_I15, th_W15, th_I16, th_W16, th_I17, th_W17, th_I18, th_W18, th_I19, th_W19, th_I20, th_W20, th_I21, th_W21, th_R22, th_R23, th_R24, th_R25, th_R26, th_R27, th_R28, th_I29, th_W29, th_I30, th_W30, th_I31, th_W31, th_R32, th_I33, th_W33, th_A0, th_S0, th_L0, th_A1, th_S1, th_L1, th_A2, th_S2, th_L2, th_A3, th_S3, th_L3, th_A4, th_S4, th_L4, th_A5, th_S5, th_L5, th_A6, th_S6, th_L6, th_A7, th_S7, th_L7, th_A8, th_S8, th_L8, th_A9, th_S9, th_L9, th_A10, th_S10, th_L10, th_A11, th_S11, th_L11, th_A12, th_S12, th_L12, th_A13, th_S13, th_L13, th_A14, th_S14, th_L14, th_A15, th_S15, th_L15, th_A16, th_S16, th_L16, th_A17, th_S17, th_L17, hb_some, hbx_inr, hbx_inl, Option.bind_some, iLT_in, iLE_in, iEQ_in, iIN_in, rtZ_in, rtC_in, rtB_in, if_pos]
      rw [show (t.2 0 1 - t.2 0 1).toNat = 0 by omega]
      simp [cnt]
    · simp (discharger := omega) only [th_rcv, th_R0, th_R1, th_R2, th_R3, th_R4, th_R5, th_I6, th_W6, th_I7, th_W7, th_R8, th_R9, th_R10, th_R11, th_I12, th_W12, th_I13, th_W13, th_I14, th_W14, th_I15, th_W15, th_I16, th_W16, th_I17, th_W17, th_I18, th_W18, th_I19, th_W19, th_I20, th_W20, th_I21, th_W21, th_R22, th_R23, th_R24, th_R25, th_R26, th_R27, th_R28, th_I29, th_W29, th_I30, th_W30, th_I31, th_W31, th_R32, th_I33, th_W33, th_A0, th_S0, th_L0, th_A1, th_S1, th_L1, th_A2, th_S2, th_L2, th_A3, th_S3, th_L3, th_A4, th_S4, th_L4, th_A5, th_S5, th_L5, th_A6, th_S6, th_L6, th_A7, th_S7, th_L7, th_A8, th_S8, th_L8, th_A9, th_S9, th_L9, th_A10, th_S10, th_L10, th_A11, th_S11, th_L11, th_A12, th_S12, th_L12, th_A13, th_S13, th_L13, th_A14, th_S14, th_L14, th_A15, th_S15, th_L15, th_A16, th_S16, th_L16, th_A17, th_S17, th_L17, hb_some, hbx_inr, hbx_inl, Option.bind_some, iLT_in, iLE_in, iEQ_in, iIN_in, rtZ_in, rtC_in, rtB_in, if_pos, if_neg, x_isThere hh, x_one]
      rw [show (t.2 0 1 - k).toNat = (t.2 0 1 - (k + 1)).toNat + 1 by omega]
      unfold cnt
      have := ih (n + bZ (there t p k), k + 1) ⟨by dsimp only; omega, by dsimp only; omega⟩ (by dsimp only; omega)
      rw [this, ← Int.add_assoc]
      rfl
