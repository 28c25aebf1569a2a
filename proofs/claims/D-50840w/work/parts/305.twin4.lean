/-! STAGE 2f: the reference: unlike letters, candidates, windows. -/
set_option maxRecDepth 100000
/-- the same but for the three arrays that are written over at each look -/
def tSc (t t' : TS) : Prop := t'.1 = t.1 ∧ ∀ j, j ≠ 6 → j ≠ 7 → j ≠ 8 → t'.2 j = t.2 j
theorem tSc.refl (t : TS) : tSc t t := ⟨rfl, fun _ _ _ _ => rfl⟩
theorem tSc.trans {a b c : TS} (h : tSc a b) (k : tSc b c) : tSc a c := ⟨k.1.trans h.1, fun j h1 h2 h3 => (k.2 j h1 h2 h3).trans (h.2 j h1 h2 h3)⟩
theorem tSc.z {a b : TS} (h : tSc a b) : b.2 0 = a.2 0 := h.2 0 (by omega) (by omega) (by omega)
theorem tOK_z {a b : TS} (h : b.2 0 = a.2 0) (ha : tOK a) : tOK b := by
  unfold tOK tIn ln at *
  rw [h]; exact ha
/-- letters are letters -/
def tLt (t : TS) : Prop := (∀ k, 0 ≤ k → k < t.2 0 1 → 0 ≤ t.2 0 (16 + k) ∧ t.2 0 (16 + k) < 26) ∧ ∀ p k, 0 ≤ p → p < t.2 0 2 → 0 ≤ k → k < ln t p → 0 ≤ pt t p k ∧ pt t p k < 26
theorem tLt_z {a b : TS} (h : b.2 0 = a.2 0) (ha : tLt a) : tLt b := by
  unfold tLt pt ln at *
  rw [h]; exact ha
def unl (r : Int → Int) (m fm : Int) (is : Bool) : Int := cnt (fun c => decide (0 < occ r m c) && (decide (c < fm) == is)) 0 26
theorem occ_le {r : Int → Int} {m c : Int} (h : 0 ≤ m) : 0 ≤ occ r m c ∧ occ r m c ≤ m := by
  have := cnt_le (p := fun k => decide (r k = c)) (i := 0) (n := m.toNat)
  unfold occ
  omega
theorem x_unlike {b : Nat} {t : TS} {h : HP} {fr m : Int} {is : Bool} (ht : tIn t) (hf : 0 ≤ fr) (hm : 0 ≤ m) (hr : fr + m ≤ 576) (hl : ∀ k, 0 ≤ k → k < m → 0 ≤ t.2 0 (fr + k) ∧ t.2 0 (fr + k) < 26) :
    ∃ t', f_X9_unlike b fr m (bZ is) (TH b t h) = some (unl (fun j => t.2 0 (fr + j)) m (t.2 0 0) is, TH b t' h) ∧ tSc t t' := by
  obtain ⟨u, p1, p2, p3, p4⟩ := x_counts0_6 (b := b) (h := h) hf hm hr hl
  unfold f_X9_unlike
  simp (discharger := omega) only [th_rcv, th_R0, th_R1, th_R2, th_R3, th_R4, th_R5, th_I6, th_W6, th_I7, th_W7, th_R8, th_R9, th_R10, th_R11, th_I12, th_W12, th_I13, th_W13, th_I14, th_W14, th_I15, th_W15, th_I16, th_W16, th_I17, th_W17, th_I18, th_W18, th_I19, th_W19, th_I20, th_W20, th_I21, th_W21, th_R22, th_R23, th_R24, th_R25, th_R26, th_R27, th_R28, th_I29, th_W29, th_I30, th_W30, th_I31, th_W31, th_R32, th_I33, th_W33, th_A0, th_S0, th_L0, th_A1, th_S1, th_L1, th_A2, th_S2, th_L2, th_A3, th_S3, th_L3, th_A4, th_S4, th_L4, th_A5, th_S5, th_L5, th_A6, th_S6, th_L6, th_A7, th_S7, th_L7, th_A8, th_S8, th_L8, th_A9, th_S9, th_L9, th_A10, th_S10, th_L10, th_A11, th_S11, th_L11, th_A12, th_S12, th_L12, th_A13, th_S13, th_L13, th_A14, th_S14, th_L14, th_A15, th_S15, th_L15, th_A16, th_S16, th_L16, th_A17, th_S17, th_L17, hb_some, hbx_inr, hbx_inl, Option.bind_some, iLT_in, iLE_in, iEQ_in, iIN_in, rtZ_in, rtC_in, rtB_in, if_pos, p1]
  refine ⟨u, ?_, p2, fun j h1 _ _ => p3 j h1⟩
  have hz : u.2 0 = t.2 0 := p3 0 (by omega)
  have hu : tIn u := by unfold tIn at *; rw [hz]; exact ht
  unfold b_X9_unlike_19
  have key := fx_FU (bot := fun (_ : Option Nat) (_ _ _ : Int) (_ : HP) => (none : Option (Int × HP))) (body := c_X9_unlike_19)
    (fun F (s : Int × Int) => F (some b) (bZ is) s.1 s.2 (TH b u h)) (fun s => 0 ≤ s.2 ∧ s.2 ≤ 26) (fun s => (26 - s.2).toNat)
    (fun s v => v = some (s.1 + cnt (fun c => decide (0 < occ (fun j => t.2 0 (fr + j)) m c) && (decide (c < t.2 0 0) == is)) s.2 (26 - s.2).toNat, TH b u h)) ?_ (0, 0) ⟨by omega, by dsimp only; omega⟩ (by dsimp only; omega)
  · dsimp only at key
    rw [key, Int.zero_add]
    rfl
  · rintro rec ⟨n, k⟩ ⟨h3, h4⟩ ih
    dsimp only at h3 h4 ih ⊢
    have o1 := x_one (h := TH b u h) (z := true)
    have o0 := x_one (h := TH b u h) (z := false)
    simp only [bZ, if_true, Bool.false_eq_true, if_false] at o1 o0
    unfold c_X9_unlike_19 b_X9_unlike_52 b_X9_unlike_53
    by_cases g : 26 ≤ k
    · rw [show k = 26 by omega]
      simp (discharger := omega) only [th_rcv, th_R0, th_R1, th_R2, th_R3, th_R4, th_R5, th_I6, th_W6, th_I7, th_W7, th_R8, th_R9, th_R10, th_R11, th_I12, th_W12, th_I13, th_W13, th_I14, th_W14, th_I15, th_W15, th_I16, th_W16, th_I17, th_W17, th_I18, th_W18, th_I19, th_W19, th_I20, th_W20, th_I21, th_W21, th_R22, th_R23, th_R24, th_R25, th_R26, th_R27, th_R28, th_I29, th_W29, th_I30, th_W30, th_I31, th_W31, th_R32, th_I33, th_W33, th_A0, th_S0, th_L0, th_A1, th_S1, th_L1, th_A2, th_S2, th_L2, th_A3, th_S3, th_L3, th_A4, th_S4, th_L4, th_A5, th_S5, th_L5, th_A6, th_S6, th_L6, th_A7, th_S7, th_L7, th_A8, th_S8, th_L8, th_A9, th_S9, th_L9, th_A10, th_S10, th_L10, th_A11, th_S11, th_L11, th_A12, th_S12, th_L12, th_A13, th_S13, th_L13, th_A14, th_S14, th_L14, th_A15, th_S15, th_L15, th_A16, th_S16, th_L16, th_A17, th_S17, th_L17, hb_some, hbx_inr, hbx_inl, Option.bind_some, iLT_in, iLE_in, iEQ_in, iIN_in, rtZ_in, rtC_in, rtB_in, if_pos]
      simp [cnt]
    · have ho := p4 k (by omega) (by omega)
      have hol := occ_le (r := fun j => t.2 0 (fr + j)) (c := k) hm
      have hb1 := bZ_in (decide (k < u.2 0 0))
      have hb2 := bZ_in is
      simp (discharger := omega) only [th_rcv, th_R0, th_R1, th_R2, th_R3, th_R4, th_R5, th_I6, th_W6, th_I7, th_W7, th_R8, th_R9, th_R10, th_R11, th_I12, th_W12, th_I13, th_W13, th_I14, th_W14, th_I15, th_W15, th_I16, th_W16, th_I17, th_W17, th_I18, th_W18, th_I19, th_W19, th_I20, th_W20, th_I21, th_W21, th_R22, th_R23, th_R24, th_R25, th_R26, th_R27, th_R28, th_I29, th_W29, th_I30, th_W30, th_I31, th_W31, th_R32, th_I33, th_W33, th_A0, th_S0, th_L0, th_A1, th_S1, th_L1, th_A2, th_S2, th_L2, th_A3, th_S3, th_L3, th_A4, th_S4, th_L4, th_A5, th_S5, th_L5, th_A6, th_S6, th_L6, th_A7, th_S7, th_L7, th_A8, th_S8, th_L8, th_A9, th_S9, th_L9, th_A10, th_S10, th_L10, th_A11, th_S11, th_L11, th_A12, th_S12, th_L12, th_A13, th_S13, th_L13, th_A14, th_S14, th_L14, th_A15, th_S15, th_L15, th_A16, th_S16, th_L16, th_A17, th_S17, th_L17, hb_some, hbx_inr, hbx_inl, Option.bind_some, iLT_in, iLE_in, iEQ_in, iIN_in, rtZ_in, rtC_in, rtB_in, if_pos, if_neg, ho, x_isFirm hu]
      rw [show (26 - k).toNat = (26 - (k + 1)).toNat + 1 by omega]
      unfold cnt
      have i0 := ih (n + 0, k + 1) ⟨by dsimp only; omega, by dsimp only; omega⟩ (by dsimp only; omega)
      have i1 := ih (n + 1, k + 1) ⟨by dsimp only; omega, by dsimp only; omega⟩ (by dsimp only; omega)
      dsimp only at i0 i1
      rw [hz]
      by_cases g2 : occ (fun j => t.2 0 (fr + j)) m k ≤ 0
      · rw [if_pos g2, o0]
        simp only [hb_some]
        rw [i0]
        have : decide (0 < occ (fun j => t.2 0 (fr + j)) m k) = false := by simp; omega
        rw [this]
        simp
      · rw [if_neg g2]
        have : decide (0 < occ (fun j => t.2 0 (fr + j)) m k) = true := by simp; omega
        rw [this, Bool.true_and]
        cases is <;> simp only [bZ, if_true, Bool.false_eq_true, if_false] at i0 i1
        · by_cases g3 : k < t.2 0 0
          · simp only [g3, bZ, decide_true, if_true, Bool.false_eq_true, if_false]
            rw [if_neg (by omega), o0]
            simp only [hb_some]
            rw [i0]; simp
          · simp only [g3, bZ, decide_false, Bool.false_eq_true, if_false, if_true]
            rw [o1]
            simp only [hb_some]
            rw [i1]; simp; omega
        · by_cases g3 : k < t.2 0 0
          · simp only [g3, bZ, decide_true, if_true]
            rw [o1]
            simp only [hb_some]
            rw [i1]; simp; omega
          · simp only [g3, bZ, decide_false, Bool.false_eq_true, if_false, if_true]
            rw [if_neg (by omega), o0]
            simp only [hb_some]
            rw [i0]; simp
/-- how many letters that aren't firm are so often in a row -/
def ofn (r : Int → Int) (m fm z : Int) (k : Nat) : Int := cnt (fun c => decide (fm ≤ c ∧ occ r m c = z)) 0 k
def cnd (t : TS) (p q : Int) : Bool := decide (q + ln t p ≤ t.2 0 1) && ((fnd (fun c => decide (c < t.2 0 0 ∧ occ (pt t p) (ln t p) c ≠ occ (tx t q) (ln t p) c)) 0 26).isNone && (fnd (fun z => decide (ofn (pt t p) (ln t p) (t.2 0 0) z 26 ≠ ofn (tx t q) (ln t p) (t.2 0 0) z 26)) 0 21).isNone)
theorem x_isCandidate_c {b : Nat} {t u : TS} {h : HP} {F : Int → Int} (hF : ∀ z, 0 ≤ z → z < 21 → u.2 8 z = F z) (hFi : ∀ z, 0 ≤ z → z < 21 → inR (F z)) (hS : tSc t u) : b_X9_isCandidate_168 (some b) 0 (TH b u h) = some (bZ (fnd (fun z => decide (F z ≠ 0)) 0 21).isNone, TH b u h) := by
  unfold b_X9_isCandidate_168
  refine fx_FU (bot := fun (_ : Option Nat) (_ : Int) (_ : HP) => (none : Option (Int × HP))) (body := c_X9_isCandidate_168)
    (fun G (k : Int) => G (some b) k (TH b u h)) (fun k => 0 ≤ k ∧ k ≤ 21) (fun k => (21 - k).toNat)
    (fun k v => v = some (bZ (fnd (fun z => decide (F z ≠ 0)) k (21 - k).toNat).isNone, TH b u h)) ?_ 0 ⟨by omega, by omega⟩ (by omega)
  rintro rec k ⟨h3, h4⟩ ih
  unfold c_X9_isCandidate_168
  by_cases g : 20 < k
  · rw [show k = 21 by omega]
    simp (discharger := omega) only [th_rcv, th_R0, th_R1, th_R2, th_R3, th_R4, th_R5, th_I6, th_W6, th_I7, th_W7, th_R8, th_R9, th_R10, th_R11, th_I12, th_W12, th_I13, th_W13, th_I14, th_W14, th_I15, th_W15, th_I16, th_W16, th_I17, th_W17, th_I18, th_W18, th_I19, th_W19, th_I20, th_W20, th_I21, th_W21, th_R22, th_R23, th_R24, th_R25, th_R26, th_R27, th_R28, th_I29, th_W29, th_I30, th_W30, th_I31, th_W31, th_R32, th_I33, th_W33, th_A0, th_S0, th_L0, th_A1, th_S1, th_L1, th_A2, th_S2, th_L2, th_A3, th_S3, th_L3, th_A4, th_S4, th_L4, th_A5, th_S5, th_L5, th_A6, th_S6, th_L6, th_A7, th_S7, th_L7, th_A8, th_S8, th_L8, th_A9, th_S9, th_L9, th_A10, th_S10, th_L10, th_A11, th_S11, th_L11, th_A12, th_S12, th_L12, th_A13, th_S13, th_L13, th_A14, th_S14, th_L14, th_A15, th_S15, th_L15, th_A16, th_S16, th_L16, th_A17, th_S17, th_L17, hb_some, hbx_inr, hbx_inl, Option.bind_some, iLT_in, iLE_in, iEQ_in, iIN_in, rtZ_in, rtC_in, rtB_in, if_pos]
    rfl
  · have e := hF k (by omega) (by omega)
    have e2 := hFi k (by omega) (by omega)
    simp (discharger := omega) only [th_rcv, th_R0, th_R1, th_R2, th_R3, th_R4, th_R5, th_I6, th_W6, th_I7, th_W7, th_R8, th_R9, th_R10, th_R11, th_I12, th_W12, th_I13, th_W13, th_I14, th_W14, th_I15, th_W15, th_I16, th_W16, th_I17, th_W17, th_I18, th_W18, th_I19, th_W19, th_I20, th_W20, th_I21, th_W21, th_R22, th_R23, th_R24, th_R25, th_R26, th_R27, th_R28, th_I29, th_W29, th_I30, th_W30, th_I31, th_W31, th_R32, th_I33, th_W33, th_A0, th_S0, th_L0, th_A1, th_S1, th_L1, th_A2, th_S2, th_L2, th_A3, th_S3, th_L3, th_A4, th_S4, th_L4, th_A5, th_S5, th_L5, th_A6, th_S6, th_L6, th_A7, th_S7, th_L7, th_A8, th_S8, th_L8, th_A9, th_S9, th_L9, th_A10, th_S10, th_L10, th_A11, th_S11, th_L11, th_A12, th_S12, th_L12, th_A13, th_S13, th_L13, th_A14, th_S14, th_L14, th_A15, th_S15, th_L15, th_A16, th_S16, th_L16, th_A17, th_S17, th_L17, hb_some, hbx_inr, hbx_inl, Option.bind_some, iLT_in, iLE_in, iEQ_in, iIN_in, rtZ_in, rtC_in, rtB_in, if_pos, if_neg, e]
    rw [show (21 - k).toNat = (21 - (k + 1)).toNat + 1 by omega]
    unfold fnd
    have := ih (k + 1) ⟨by omega, by omega⟩ (by omega)
    by_cases g2 : F k = 0
    · simp only [g2, if_true, ne_eq, not_true_eq_false, decide_false, Bool.false_eq_true, if_false]
      exact this
    · simp [g2, bZ]
theorem x_isCandidate {b : Nat} {t : TS} {h : HP} {p q : Int} (ht : tOK t) (hl : tLt t) (h1 : 0 ≤ p) (h2 : p < t.2 0 2) (h3 : 0 ≤ q) (h4 : q < 1000) :
    ∃ t', f_X9_isCandidate b p q (TH b t h) = some (bZ (cnd t p q), TH b t' h) ∧ tSc t t' := by
  have hh := ht
  obtain ⟨k1, k2, k3, k4, k5, k6⟩ := ht
  have k7 := k6 p h1 h2
  have el : t.2 0 (216 + 30 * p + 0) = ln t p := by rw [Int.add_zero]; rfl
  unfold f_X9_isCandidate
  simp (discharger := omega) only [th_rcv, th_R0, th_R1, th_R2, th_R3, th_R4, th_R5, th_I6, th_W6, th_I7, th_W7, th_R8, th_R9, th_R10, th_R11, th_I12, th_W12, th_I13, th_W13, th_I14, th_W14, th_I15, th_W15, th_I16, th_W16, th_I17, th_W17, th_I18, th_W18, th_I19, th_W19, th_I20, th_W20, th_I21, th_W21, th_R22, th_R23, th_R24, th_R25, th_R26, th_R27, th_R28, th_I29, th_W29, th_I30, th_W30, th_I31, th_W31, th_R32, th_I33, th_W33, th_A0, th_S0, th_L0, th_A1, th_S1, th_L1, th_A2, th_S2, th_L2, th_A3, th_S3, th_L3, th_A4, th_S4, th_L4, th_A5, th_S5, th_L5, th_A6, th_S6, th_L6, th_A7, th_S7, th_L7, th_A8, th_S8, th_L8, th_A9, th_S9, th_L9, th_A10, th_S10, th_L10, th_A11, th_S11, th_L11, th_A12, th_S12, th_L12, th_A13, th_S13, th_L13, th_A14, th_S14, th_L14, th_A15, th_S15, th_L15, th_A16, th_S16, th_L16, th_A17, th_S17, th_L17, hb_some, hbx_inr, hbx_inl, Option.bind_some, iLT_in, iLE_in, iEQ_in, iIN_in, rtZ_in, rtC_in, rtB_in, if_pos, x_of, el]
  by_cases g : q + ln t p ≤ t.2 0 1
  · obtain ⟨u1, p1, p2, p3, p4⟩ := x_counts0_6 (b := b) (t := t) (h := h) (fr := 216 + 30 * p + 10) (m := ln t p) (by omega) (by omega) (by omega) (fun k z1 z2 => hl.2 p k h1 h2 z1 z2)
    have hz1 : u1.2 0 = t.2 0 := p3 0 (by omega)
    obtain ⟨u2, r1, r2, r3, r4⟩ := x_counts0_7 (b := b) (t := u1) (h := h) (fr := 16 + q) (m := ln t p) (by omega) (by omega) (by omega) (fun k z1 z2 => by
      rw [hz1, Int.add_assoc]; exact hl.1 (q + k) (by omega) (by omega))
    rw [if_pos g]
    unfold f_X9_patternFrom f_X9_textFrom
    simp (discharger := omega) only [th_rcv, th_R0, th_R1, th_R2, th_R3, th_R4, th_R5, th_I6, th_W6, th_I7, th_W7, th_R8, th_R9, th_R10, th_R11, th_I12, th_W12, th_I13, th_W13, th_I14, th_W14, th_I15, th_W15, th_I16, th_W16, th_I17, th_W17, th_I18, th_W18, th_I19, th_W19, th_I20, th_W20, th_I21, th_W21, th_R22, th_R23, th_R24, th_R25, th_R26, th_R27, th_R28, th_I29, th_W29, th_I30, th_W30, th_I31, th_W31, th_R32, th_I33, th_W33, th_A0, th_S0, th_L0, th_A1, th_S1, th_L1, th_A2, th_S2, th_L2, th_A3, th_S3, th_L3, th_A4, th_S4, th_L4, th_A5, th_S5, th_L5, th_A6, th_S6, th_L6, th_A7, th_S7, th_L7, th_A8, th_S8, th_L8, th_A9, th_S9, th_L9, th_A10, th_S10, th_L10, th_A11, th_S11, th_L11, th_A12, th_S12, th_L12, th_A13, th_S13, th_L13, th_A14, th_S14, th_L14, th_A15, th_S15, th_L15, th_A16, th_S16, th_L16, th_A17, th_S17, th_L17, hb_some, hbx_inr, hbx_inl, Option.bind_some, iLT_in, iLE_in, iEQ_in, iIN_in, rtZ_in, rtC_in, rtB_in, if_pos, p1, r1]
    rw [hz1] at r4
    have s4 : ∀ c, 0 ≤ c → c < 26 → u2.2 6 c = occ (pt t p) (ln t p) c := fun c z1 z2 => by rw [r3 6 (by omega)]; exact p4 c z1 z2
    have s5 : ∀ c, 0 ≤ c → c < 26 → u2.2 7 c = occ (tx t q) (ln t p) c := r4
    have hS2 : tSc t u2 := ⟨r2.trans p2, fun j z1 z2 z3 => (r3 j z2).trans (p3 j z1)⟩
    have hcnd : cnd t p q = ((fnd (fun c => decide (c < t.2 0 0 ∧ occ (pt t p) (ln t p) c ≠ occ (tx t q) (ln t p) c)) 0 26).isNone && (fnd (fun z => decide (ofn (pt t p) (ln t p) (t.2 0 0) z 26 ≠ ofn (tx t q) (ln t p) (t.2 0 0) z 26)) 0 21).isNone) := by
      unfold cnd
      rw [decide_eq_true g, Bool.true_and]
    rw [hcnd]
    clear p1 p2 p3 p4 r1 r2 r3 r4 hz1 el hcnd
    unfold b_X9_isCandidate_56
    refine fx_FU (bot := fun (_ : Option Nat) (_ : Int) (_ : HP) => (none : Option (Int × HP))) (body := c_X9_isCandidate_56)
      (fun F (s : Int × TS) => F (some b) s.1 (TH b s.2 h)) (fun s => (0 ≤ s.1 ∧ s.1 ≤ 21) ∧ tSc t s.2 ∧ (∀ c, 0 ≤ c → c < 26 → s.2.2 6 c = occ (pt t p) (ln t p) c) ∧ (∀ c, 0 ≤ c → c < 26 → s.2.2 7 c = occ (tx t q) (ln t p) c) ∧ ∀ z, 0 ≤ z → z < s.1 → s.2.2 8 z = 0) (fun s => (21 - s.1).toNat)
      (fun s v => ∃ t', v = some (bZ ((fnd (fun c => decide (c < t.2 0 0 ∧ occ (pt t p) (ln t p) c ≠ occ (tx t q) (ln t p) c)) 0 26).isNone && (fnd (fun z => decide (ofn (pt t p) (ln t p) (t.2 0 0) z 26 ≠ ofn (tx t q) (ln t p) (t.2 0 0) z 26)) 0 21).isNone), TH b t' h) ∧ tSc t t') ?_
      (0, u2) ⟨⟨by dsimp only; omega, by dsimp only; omega⟩, hS2, s4, s5, fun z z1 z2 => by dsimp only at z2; omega⟩ (by dsimp only; omega)
    clear s4 s5 hS2 u1 u2
    rintro rec ⟨k, u⟩ ⟨⟨z1, z2⟩, z3, z4, z5, z6⟩ ih
    dsimp only at z1 z2 z3 z4 z5 z6 ih ⊢
    unfold c_X9_isCandidate_56
    simp (discharger := omega) only [th_rcv, th_R0, th_R1, th_R2, th_R3, th_R4, th_R5, th_I6, th_W6, th_I7, th_W7, th_R8, th_R9, th_R10, th_R11, th_I12, th_W12, th_I13, th_W13, th_I14, th_W14, th_I15, th_W15, th_I16, th_W16, th_I17, th_W17, th_I18, th_W18, th_I19, th_W19, th_I20, th_W20, th_I21, th_W21, th_R22, th_R23, th_R24, th_R25, th_R26, th_R27, th_R28, th_I29, th_W29, th_I30, th_W30, th_I31, th_W31, th_R32, th_I33, th_W33, th_A0, th_S0, th_L0, th_A1, th_S1, th_L1, th_A2, th_S2, th_L2, th_A3, th_S3, th_L3, th_A4, th_S4, th_L4, th_A5, th_S5, th_L5, th_A6, th_S6, th_L6, th_A7, th_S7, th_L7, th_A8, th_S8, th_L8, th_A9, th_S9, th_L9, th_A10, th_S10, th_L10, th_A11, th_S11, th_L11, th_A12, th_S12, th_L12, th_A13, th_S13, th_L13, th_A14, th_S14, th_L14, th_A15, th_S15, th_L15, th_A16, th_S16, th_L16, th_A17, th_S17, th_L17, hb_some, hbx_inr, hbx_inl, Option.bind_some, iLT_in, iLE_in, iEQ_in, iIN_in, rtZ_in, rtC_in, rtB_in, if_pos]
    by_cases g1 : 20 < k
    · rw [if_pos g1]
      unfold b_X9_isCandidate_80
      refine fx_FU (bot := fun (_ : Option Nat) (_ : Int) (_ : HP) => (none : Option (Int × HP))) (body := c_X9_isCandidate_80)
        (fun F (s : Nat × TS) => F (some b) s.1 (TH b s.2 h)) (fun s => s.1 ≤ 26 ∧ tSc t s.2 ∧ (∀ c, 0 ≤ c → c < 26 → s.2.2 6 c = occ (pt t p) (ln t p) c) ∧ (∀ c, 0 ≤ c → c < 26 → s.2.2 7 c = occ (tx t q) (ln t p) c) ∧
          (∀ z, 0 ≤ z → z < 21 → s.2.2 8 z = ofn (pt t p) (ln t p) (t.2 0 0) z s.1 - ofn (tx t q) (ln t p) (t.2 0 0) z s.1) ∧ ∀ c : Int, 0 ≤ c → c < s.1 → c < t.2 0 0 → occ (pt t p) (ln t p) c = occ (tx t q) (ln t p) c) (fun s => 26 - s.1)
        (fun s v => ∃ t', v = some (bZ ((fnd (fun c => decide (c < t.2 0 0 ∧ occ (pt t p) (ln t p) c ≠ occ (tx t q) (ln t p) c)) 0 26).isNone && (fnd (fun z => decide (ofn (pt t p) (ln t p) (t.2 0 0) z 26 ≠ ofn (tx t q) (ln t p) (t.2 0 0) z 26)) 0 21).isNone), TH b t' h) ∧ tSc t t') ?_
        (0, u) ⟨by dsimp only; omega, z3, z4, z5, fun z w1 w2 => by dsimp only; rw [z6 z w1 (by omega)]; rfl, fun c w1 w2 => by dsimp only at w2; omega⟩ (by dsimp only; omega)
      clear ih z1 z2 z3 z4 z5 z6 g1 rec u k
      rintro rec ⟨k, u⟩ ⟨z1, z3, z4, z5, z6, z7⟩ ih
      dsimp only at z1 z3 z4 z5 z6 z7 ih ⊢
      have hu : tIn u := by unfold tIn at *; rw [z3.z]; exact k1
      have hz := z3.z
      unfold c_X9_isCandidate_80
      by_cases g1 : 26 ≤ k
      · have ek : k = 26 := by omega
        subst ek
        simp (discharger := omega) only [th_rcv, th_R0, th_R1, th_R2, th_R3, th_R4, th_R5, th_I6, th_W6, th_I7, th_W7, th_R8, th_R9, th_R10, th_R11, th_I12, th_W12, th_I13, th_W13, th_I14, th_W14, th_I15, th_W15, th_I16, th_W16, th_I17, th_W17, th_I18, th_W18, th_I19, th_W19, th_I20, th_W20, th_I21, th_W21, th_R22, th_R23, th_R24, th_R25, th_R26, th_R27, th_R28, th_I29, th_W29, th_I30, th_W30, th_I31, th_W31, th_R32, th_I33, th_W33, th_A0, th_S0, th_L0, th_A1, th_S1, th_L1, th_A2, th_S2, th_L2, th_A3, th_S3, th_L3, th_A4, th_S4, th_L4, th_A5, th_S5, th_L5, th_A6, th_S6, th_L6, th_A7, th_S7, th_L7, th_A8, th_S8, th_L8, th_A9, th_S9, th_L9, th_A10, th_S10, th_L10, th_A11, th_S11, th_L11, th_A12, th_S12, th_L12, th_A13, th_S13, th_L13, th_A14, th_S14, th_L14, th_A15, th_S15, th_L15, th_A16, th_S16, th_L16, th_A17, th_S17, th_L17, hb_some, hbx_inr, hbx_inl, Option.bind_some, iLT_in, iLE_in, iEQ_in, iIN_in, rtZ_in, rtC_in, rtB_in, if_pos]
        rw [x_isCandidate_c (t := t) z6 (fun z w1 w2 => by
          have e1 := cnt_le (p := fun c => decide (t.2 0 0 ≤ c ∧ occ (pt t p) (ln t p) c = z)) (i := 0) (n := 26)
          have e2 := cnt_le (p := fun c => decide (t.2 0 0 ≤ c ∧ occ (tx t q) (ln t p) c = z)) (i := 0) (n := 26)
          unfold ofn
          omega) z3]
        refine ⟨u, ?_, z3⟩
        have e1 : (fnd (fun c => decide (c < t.2 0 0 ∧ occ (pt t p) (ln t p) c ≠ occ (tx t q) (ln t p) c)) 0 26).isNone = true := by
          rw [Option.isNone_iff_eq_none]
          refine fnd_none.mpr fun c w1 w2 => ?_
          simp only [decide_eq_false_iff_not, not_and, ne_eq, Decidable.not_not]
          exact fun w3 => z7 c w1 (by omega) w3
        rw [e1, Bool.true_and]
        have e2 : (fun z => decide (ofn (pt t p) (ln t p) (t.2 0 0) z 26 - ofn (tx t q) (ln t p) (t.2 0 0) z 26 ≠ 0)) = fun z => decide (ofn (pt t p) (ln t p) (t.2 0 0) z 26 ≠ ofn (tx t q) (ln t p) (t.2 0 0) z 26) := by
          funext z
          congr 1
          apply propext
          omega
        rw [e2]
      · have o1 := z4 (k : Int) (by omega) (by omega)
        have o2 := z5 (k : Int) (by omega) (by omega)
        have l1 := occ_le (r := pt t p) (m := ln t p) (c := (k : Int)) (by omega)
        have l2 := occ_le (r := tx t q) (m := ln t p) (c := (k : Int)) (by omega)
        have next : ∀ u' : TS, tSc t u' → (∀ c, 0 ≤ c → c < 26 → u'.2 6 c = occ (pt t p) (ln t p) c) → (∀ c, 0 ≤ c → c < 26 → u'.2 7 c = occ (tx t q) (ln t p) c) → (∀ z, 0 ≤ z → z < 21 → u'.2 8 z = ofn (pt t p) (ln t p) (t.2 0 0) z (k + 1) - ofn (tx t q) (ln t p) (t.2 0 0) z (k + 1)) →
            ((k : Int) < t.2 0 0 → occ (pt t p) (ln t p) k = occ (tx t q) (ln t p) k) → _ := fun u' w1 w2 w3 w4 w5 => ih (k + 1, u') ⟨by dsimp only; omega, w1, w2, w3, w4, fun c w6 w7 w8 => by
              dsimp only at w7
              by_cases w9 : c = k
              · rw [w9] at w8 ⊢; exact w5 w8
              · exact z7 c w6 (by omega) w8⟩ (by dsimp only; omega)
        have sn : ∀ (r : Int → Int) (z : Int), ofn r (ln t p) (t.2 0 0) z (k + 1) = ofn r (ln t p) (t.2 0 0) z k + (if t.2 0 0 ≤ (k : Int) ∧ occ r (ln t p) k = z then 1 else 0) := by
          intro r z
          unfold ofn
          rw [cnt_snoc, Int.zero_add]
          simp only [decide_eq_true_eq]
        dsimp only at next
        simp (discharger := omega) only [th_rcv, th_R0, th_R1, th_R2, th_R3, th_R4, th_R5, th_I6, th_W6, th_I7, th_W7, th_R8, th_R9, th_R10, th_R11, th_I12, th_W12, th_I13, th_W13, th_I14, th_W14, th_I15, th_W15, th_I16, th_W16, th_I17, th_W17, th_I18, th_W18, th_I19, th_W19, th_I20, th_W20, th_I21, th_W21, th_R22, th_R23, th_R24, th_R25, th_R26, th_R27, th_R28, th_I29, th_W29, th_I30, th_W30, th_I31, th_W31, th_R32, th_I33, th_W33, th_A0, th_S0, th_L0, th_A1, th_S1, th_L1, th_A2, th_S2, th_L2, th_A3, th_S3, th_L3, th_A4, th_S4, th_L4, th_A5, th_S5, th_L5, th_A6, th_S6, th_L6, th_A7, th_S7, th_L7, th_A8, th_S8, th_L8, th_A9, th_S9, th_L9, th_A10, th_S10, th_L10, th_A11, th_S11, th_L11, th_A12, th_S12, th_L12, th_A13, th_S13, th_L13, th_A14, th_S14, th_L14, th_A15, th_S15, th_L15, th_A16, th_S16, th_L16, th_A17, th_S17, th_L17, hb_some, hbx_inr, hbx_inl, Option.bind_some, iLT_in, iLE_in, iEQ_in, iIN_in, rtZ_in, rtC_in, rtB_in, if_pos, if_neg, x_isFirm hu, iEQ_bZ]
        rw [hz]
        unfold b_X9_isCandidate_115
        by_cases g2 : (k : Int) < t.2 0 0
        · simp (discharger := omega) only [th_rcv, th_R0, th_R1, th_R2, th_R3, th_R4, th_R5, th_I6, th_W6, th_I7, th_W7, th_R8, th_R9, th_R10, th_R11, th_I12, th_W12, th_I13, th_W13, th_I14, th_W14, th_I15, th_W15, th_I16, th_W16, th_I17, th_W17, th_I18, th_W18, th_I19, th_W19, th_I20, th_W20, th_I21, th_W21, th_R22, th_R23, th_R24, th_R25, th_R26, th_R27, th_R28, th_I29, th_W29, th_I30, th_W30, th_I31, th_W31, th_R32, th_I33, th_W33, th_A0, th_S0, th_L0, th_A1, th_S1, th_L1, th_A2, th_S2, th_L2, th_A3, th_S3, th_L3, th_A4, th_S4, th_L4, th_A5, th_S5, th_L5, th_A6, th_S6, th_L6, th_A7, th_S7, th_L7, th_A8, th_S8, th_L8, th_A9, th_S9, th_L9, th_A10, th_S10, th_L10, th_A11, th_S11, th_L11, th_A12, th_S12, th_L12, th_A13, th_S13, th_L13, th_A14, th_S14, th_L14, th_A15, th_S15, th_L15, th_A16, th_S16, th_L16, th_A17, th_S17, th_L17, hb_some, hbx_inr, hbx_inl, Option.bind_some, iLT_in, iLE_in, iEQ_in, iIN_in, rtZ_in, rtC_in, rtB_in, if_pos, x_isFirm hu, iEQ_bZ, o1, o2, hz, g2, decide_true]
          by_cases g3 : occ (pt t p) (ln t p) k = occ (tx t q) (ln t p) k
          · rw [if_pos g3]
            unfold b_X9_isCandidate_159
            exact next u z3 z4 z5 (fun z w1 w2 => by rw [sn, sn, if_neg (by omega), if_neg (by omega), z6 z w1 w2, Int.add_zero, Int.add_zero]) (fun _ => g3)
          · rw [if_neg g3]
            refine ⟨u, ?_, z3⟩
            have e1 : (fnd (fun c => decide (c < t.2 0 0 ∧ occ (pt t p) (ln t p) c ≠ occ (tx t q) (ln t p) c)) 0 26).isNone = false := by
              cases e : fnd (fun c => decide (c < t.2 0 0 ∧ occ (pt t p) (ln t p) c ≠ occ (tx t q) (ln t p) c)) 0 26 with
              | some i => rfl
              | none =>
                have := fnd_none.mp e (k : Int) (by omega) (by omega)
                simp only [decide_eq_false_iff_not, not_and, ne_eq, Decidable.not_not] at this
                exact absurd (this g2) g3
            rw [e1]; rfl
        · simp (discharger := omega) only [th_rcv, th_R0, th_R1, th_R2, th_R3, th_R4, th_R5, th_I6, th_W6, th_I7, th_W7, th_R8, th_R9, th_R10, th_R11, th_I12, th_W12, th_I13, th_W13, th_I14, th_W14, th_I15, th_W15, th_I16, th_W16, th_I17, th_W17, th_I18, th_W18, th_I19, th_W19, th_I20, th_W20, th_I21, th_W21, th_R22, th_R23, th_R24, th_R25, th_R26, th_R27, th_R28, th_I29, th_W29, th_I30, th_W30, th_I31, th_W31, th_R32, th_I33, th_W33, th_A0, th_S0, th_L0, th_A1, th_S1, th_L1, th_A2, th_S2, th_L2, th_A3, th_S3, th_L3, th_A4, th_S4, th_L4, th_A5, th_S5, th_L5, th_A6, th_S6, th_L6, th_A7, th_S7, th_L7, th_A8, th_S8, th_L8, th_A9, th_S9, th_L9, th_A10, th_S10, th_L10, th_A11, th_S11, th_L11, th_A12, th_S12, th_L12, th_A13, th_S13, th_L13, th_A14, th_S14, th_L14, th_A15, th_S15, th_L15, th_A16, th_S16, th_L16, th_A17, th_S17, th_L17, hb_some, hbx_inr, hbx_inl, Option.bind_some, iLT_in, iLE_in, iEQ_in, iIN_in, rtZ_in, rtC_in, rtB_in, if_pos, x_isFirm hu, iEQ_bZ, hz, g2, decide_false, Bool.false_eq_true, if_false]
          simp (discharger := omega) only [th_rcv, th_R0, th_R1, th_R2, th_R3, th_R4, th_R5, th_I6, th_W6, th_I7, th_W7, th_R8, th_R9, th_R10, th_R11, th_I12, th_W12, th_I13, th_W13, th_I14, th_W14, th_I15, th_W15, th_I16, th_W16, th_I17, th_W17, th_I18, th_W18, th_I19, th_W19, th_I20, th_W20, th_I21, th_W21, th_R22, th_R23, th_R24, th_R25, th_R26, th_R27, th_R28, th_I29, th_W29, th_I30, th_W30, th_I31, th_W31, th_R32, th_I33, th_W33, th_A0, th_S0, th_L0, th_A1, th_S1, th_L1, th_A2, th_S2, th_L2, th_A3, th_S3, th_L3, th_A4, th_S4, th_L4, th_A5, th_S5, th_L5, th_A6, th_S6, th_L6, th_A7, th_S7, th_L7, th_A8, th_S8, th_L8, th_A9, th_S9, th_L9, th_A10, th_S10, th_L10, th_A11, th_S11, th_L11, th_A12, th_S12, th_L12, th_A13, th_S13, th_L13, th_A14, th_S14, th_L14, th_A15, th_S15, th_L15, th_A16, th_S16, th_L16, th_A17, th_S17, th_L17, hb_some, hbx_inr, hbx_inl, Option.bind_some, iLT_in, iLE_in, iEQ_in, iIN_in, rtZ_in, rtC_in, rtB_in, if_pos, upN_ne, o1, o2]
          unfold b_X9_isCandidate_159
          refine next _ ⟨z3.1, fun j w1 w2 w3 => ?_⟩ (fun c w1 w2 => ?_) (fun c w1 w2 => ?_) (fun z w1 w2 => ?_) (fun w => absurd w g2)
          · dsimp only; rw [upN_ne w3, upN_ne w3]; exact z3.2 j w1 w2 w3
          · dsimp only; rw [upN_ne (by omega), upN_ne (by omega)]; exact z4 c w1 w2
          · dsimp only; rw [upN_ne (by omega), upN_ne (by omega)]; exact z5 c w1 w2
          · have e8 : ∀ (f : Nat → Int → Int) (g : Int → Int), upN f 8 g 8 = g := fun f g => by simp [upN]
            dsimp only
            simp only [e8]
            rw [sn, sn]
            have := z6 z w1 w2
            by_cases w3 : z = occ (tx t q) (ln t p) k
            · subst w3
              rw [upI_eq, if_pos (c := t.2 0 0 ≤ (k : Int) ∧ occ (tx t q) (ln t p) k = occ (tx t q) (ln t p) k) ⟨by omega, rfl⟩]
              by_cases w4 : occ (pt t p) (ln t p) k = occ (tx t q) (ln t p) k
              · rw [if_pos ⟨by omega, w4⟩, ← w4, upI_eq]
                rw [← w4] at this
                omega
              · rw [upI_ne (fun z => w4 z.symm), if_neg (fun z => w4 z.2)]
                omega
            · rw [upI_ne w3, if_neg (c := t.2 0 0 ≤ (k : Int) ∧ occ (tx t q) (ln t p) k = z) (fun w => w3 w.2.symm)]
              by_cases w4 : z = occ (pt t p) (ln t p) k
              · rw [w4, upI_eq, if_pos ⟨by omega, rfl⟩, ← w4]
                omega
              · rw [upI_ne w4, if_neg (fun w => w4 w.2.symm)]
                omega
    · rw [if_neg g1]
      refine ih (k + 1, _) ⟨⟨by dsimp only; omega, by dsimp only; omega⟩, ⟨z3.1, fun j w1 w2 w3 => by dsimp only; rw [upN_ne w3]; exact z3.2 j w1 w2 w3⟩, fun c w1 w2 => by dsimp only; rw [upN_ne (by omega)]; exact z4 c w1 w2, fun c w1 w2 => by dsimp only; rw [upN_ne (by omega)]; exact z5 c w1 w2, fun z w1 w2 => ?_⟩ (by dsimp only; omega)
      dsimp only at w2 ⊢
      have e8 : ∀ (f : Nat → Int → Int) (g : Int → Int), upN f 8 g 8 = g := fun f g => by simp [upN]
      rw [e8]
      by_cases w3 : z = k
      · rw [w3, upI_eq]
      · rw [upI_ne w3]; exact z6 z w1 (by omega)
  · rw [if_neg g]
    refine ⟨t, ?_, tSc.refl t⟩
    unfold cnd
    rw [decide_eq_false g]
    rfl
