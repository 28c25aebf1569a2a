/-! STAGE 2g: the reference: counting places, windows, twins. -/
set_option maxRecDepth 100000
theorem tx_z {a b : TS} (h : b.2 0 = a.2 0) : tx b = tx a := by unfold tx; rw [h]
theorem pt_z {a b : TS} (h : b.2 0 = a.2 0) : pt b = pt a := by unfold pt; rw [h]
theorem ln_z {a b : TS} (h : b.2 0 = a.2 0) : ln b = ln a := by unfold ln; rw [h]
theorem cnd_z {a b : TS} (h : b.2 0 = a.2 0) : cnd b = cnd a := by unfold cnd; rw [h, tx_z h, pt_z h, ln_z h]
theorem there_z {a b : TS} (h : b.2 0 = a.2 0) : there b = there a := by unfold there mt; rw [h, tx_z h, pt_z h, ln_z h]
def cands (t : TS) (p : Int) : Int := cnt (fun q => cnd t p q) 0 (t.2 0 1).toNat
theorem x_candidates {b : Nat} {t : TS} {h : HP} {p : Int} (ht : tOK t) (hl : tLt t) (h1 : 0 ≤ p) (h2 : p < t.2 0 2) : ∃ t', f_X9_candidates b p (TH b t h) = some (cands t p, TH b t' h) ∧ tSc t t' := by
  have k3 := ht.2.2.1
  unfold f_X9_candidates b_X9_candidates_4
  have key := fx_FU (bot := fun (_ : Option Nat) (_ _ _ : Int) (_ : HP) => (none : Option (Int × HP))) (body := c_X9_candidates_4)
    (fun F (s : Int × Int × TS) => F (some b) p s.1 s.2.1 (TH b s.2.2 h)) (fun s => (0 ≤ s.2.1 ∧ s.2.1 ≤ t.2 0 1) ∧ tSc t s.2.2) (fun s => (t.2 0 1 - s.2.1).toNat)
    (fun s v => ∃ t', v = some (s.1 + cnt (fun q => cnd t p q) s.2.1 (t.2 0 1 - s.2.1).toNat, TH b t' h) ∧ tSc t t') ?_ (0, 0, t) ⟨⟨by dsimp only; omega, by dsimp only; omega⟩, tSc.refl t⟩ (by dsimp only; omega)
  · dsimp only at key
    rw [Int.zero_add, Int.sub_zero] at key
    exact key
  · rintro rec ⟨n, k, u⟩ ⟨⟨h3, h4⟩, h5⟩ ih
    dsimp only at h3 h4 h5 ih ⊢
    have hz := h5.z
    have hu : tOK u := tOK_z hz ht
    have hlu : tLt u := tLt_z hz hl
    have e1 : u.2 0 1 = t.2 0 1 := by rw [hz]
    unfold c_X9_candidates_4
    by_cases g : t.2 0 1 ≤ k
    · rw [show k = t.2 0 1 by omega]
      simp (discharger := omega) only [th_rcv, th_R0, th_R1, th_R2, th_R3, th_R4, th_R5, th_I6, th_W6, th_I7, th_W7, th_R8, th_R9, th_R10, th_R11, th_I12, th_W12, th_I13, th_W13, th_I14, th_W14, th_I15, th_W15, th_I16, th_W16, th_I17, th_W17, th_I18, th_W18, th_I19, th_W19, th_I20, th_W20, th_I21, th_W21, th_R22, th_R23, th_R24, th_R25, th_R26, th_R27, th_R28, th_I29, th_W29, th_I30, th_W30, th_I31, th_W31, th_R32, th_I33, th_W33, th_A0, th_S0, th_L0, th_A1, th_S1, th_L1, th_A2, th_S2, th_L2, th_A3, th_S3, th_L3, th_A4, th_S4, th_L4, th_A5, th_S5, th_L5, th_A6, th_S6, th_L6, th_A7, th_S7, th_L7, th_A8, th_S8, th_L8, th_A9, th_S9, th_L9, th_A10, th_S10, th_L10, th_A11, th_S11, th_L11, th_A12, th_S12, th_L12, th_A13, th_S13, th_L13, th_A14, th_S14, th_L14, th_A15, th_S15, th_L15, th_A16, th_S16, th_L16, th_A17, th_S17, th_L17, hb_some, hbx_inr, hbx_inl, Option.bind_some, iLT_in, iLE_in, iEQ_in, iIN_in, rtZ_in, rtC_in, rtB_in, if_pos, e1]
      rw [show (t.2 0 1 - t.2 0 1).toNat = 0 by omega]
      exact ⟨u, by simp [cnt], h5⟩
    · obtain ⟨u', p1, p2⟩ := x_isCandidate (b := b) (h := h) (p := p) (q := k) hu hlu h1 (by rw [hz]; exact h2) h3 (by omega)
      simp (discharger := omega) only [th_rcv, th_R0, th_R1, th_R2, th_R3, th_R4, th_R5, th_I6, th_W6, th_I7, th_W7, th_R8, th_R9, th_R10, th_R11, th_I12, th_W12, th_I13, th_W13, th_I14, th_W14, th_I15, th_W15, th_I16, th_W16, th_I17, th_W17, th_I18, th_W18, th_I19, th_W19, th_I20, th_W20, th_I21, th_W21, th_R22, th_R23, th_R24, th_R25, th_R26, th_R27, th_R28, th_I29, th_W29, th_I30, th_W30, th_I31, th_W31, th_R32, th_I33, th_W33, th_A0, th_S0, th_L0, th_A1, th_S1, th_L1, th_A2, th_S2, th_L2, th_A3, th_S3, th_L3, th_A4, th_S4, th_L4, th_A5, th_S5, th_L5, th_A6, th_S6, th_L6, th_A7, th_S7, th_L7, th_A8, th_S8, th_L8, th_A9, th_S9, th_L9, th_A10, th_S10, th_L10, th_A11, th_S11, th_L11, th_A12, th_S12, th_L12, th_A13, th_S13, th_L13, th_A14, th_S14, th_L14, th_A15, th_S15, th_L15, th_A16, th_S16, th_L16, th_A17, th_S17, th_L17, hb_some, hbx_inr, hbx_inl, Option.bind_some, iLT_in, iLE_in, iEQ_in, iIN_in, rtZ_in, rtC_in, rtB_in, if_pos, if_neg, e1, p1, x_one]
      rw [show (t.2 0 1 - k).toNat = (t.2 0 1 - (k + 1)).toNat + 1 by omega]
      unfold cnt
      rw [cnd_z hz]
      obtain ⟨t', r1, r2⟩ := ih (n + bZ (cnd t p k), k + 1, u') ⟨⟨by dsimp only; omega, by dsimp only; omega⟩, h5.trans p2⟩ (by dsimp only; omega)
      exact ⟨t', by rw [r1, ← Int.add_assoc]; rfl, r2⟩
def lse (t : TS) : Int := cnt (fun k => decide (t.2 0 0 ≤ t.2 0 (16 + k))) 0 (t.2 0 1).toNat
theorem x_loose {b : Nat} {t : TS} {h : HP} (ht : tOK t) : f_X9_loose b (TH b t h) = some (lse t, TH b t h) := by
  obtain ⟨k1, k2, k3, k4, k5, k6⟩ := ht
  unfold f_X9_loose b_X9_loose_4
  have key := fx_FU (bot := fun (_ : Option Nat) (_ _ : Int) (_ : HP) => (none : Option (Int × HP))) (body := c_X9_loose_4)
    (fun F (s : Int × Int) => F (some b) s.1 s.2 (TH b t h)) (fun s => 0 ≤ s.2 ∧ s.2 ≤ t.2 0 1) (fun s => (t.2 0 1 - s.2).toNat)
    (fun s v => v = some (s.1 + cnt (fun k => decide (t.2 0 0 ≤ t.2 0 (16 + k))) s.2 (t.2 0 1 - s.2).toNat, TH b t h)) ?_ (0, 0) ⟨by omega, by dsimp only; omega⟩ (by dsimp only; omega)
  · dsimp only at key
    rw [key]
    unfold lse
    rw [Int.zero_add, Int.sub_zero]
  · rintro rec ⟨n, k⟩ ⟨h3, h4⟩ ih
    dsimp only at h3 h4 ih ⊢
    have r1 := k1 (16 + k) (by omega)
    unfold c_X9_loose_4 b_X9_loose_36
    by_cases g : t.2 0 1 ≤ k
    · rw [show k = t.2 0 1 by omega]
      simp (discharger := omega) only [th_rcv, th_R0, th_R1, th_R2, th_R3, th_R4, th_R5, th_I6, th_W6, th_I7, th_W7, th_R8, th_R9, th_R10, th_R11, th_I12, th_W12, th_I13, th_W13, th_I14, th_W14, th_I15, th_W15, th_I16, th_W16, th_I17, th_W17, th_I18, th_W18, th_I19, th_W19, th_I20, th_W20, th_I21, th_W21, th_R22, th_R23, th_R24, th_R25, th_R26, th_R27, th_R28, th_I29, th_W29, th_I30, th_W30, th_I31, th_W31, th_R32, th_I33, th_W33, th_A0, th_S0, th_L0, th_A1, th_S1, th_L1, th_A2, th_S2, th_L2, th_A3, th_S3, th_L3, th_A4, th_S4, th_L4, th_A5, th_S5, th_L5, th_A6, th_S6, th_L6, th_A7, th_S7, th_L7, th_A8, th_S8, th_L8, th_A9, th_S9, th_L9, th_A10, th_S10, th_L10, th_A11, th_S11, th_L11, th_A12, th_S12, th_L12, th_A13, th_S13, th_L13, th_A14, th_S14, th_L14, th_A15, th_S15, th_L15, th_A16, th_S16, th_L16, th_A17, th_S17, th_L17, hb_some, hbx_inr, hbx_inl, Option.bind_some, iLT_in, iLE_in, iEQ_in, iIN_in, rtZ_in, rtC_in, rtB_in, if_pos]
      rw [show (t.2 0 1 - t.2 0 1).toNat = 0 by omega]
      simp [cnt]
    · simp (discharger := omega) only [th_rcv, th_R0, th_R1, th_R2, th_R3, th_R4, th_R5, th_I6, th_W6, th_I7, th_W7, th_R8, th_R9, th_R10, th_R11, th_I12, th_W12, th_I13, th_W13, th_I14, th_W14, th_I15, th_W15, th_I16, th_W16, th_I17, th_W17, th_I18, th_W18, th_I19, th_W19, th_I20, th_W20, th_I21, th_W21, th_R22, th_R23, th_R24, th_R25, th_R26, th_R27, th_R28, th_I29, th_W29, th_I30, th_W30, th_I31, th_W31, th_R32, th_I33, th_W33, th_A0, th_S0, th_L0, th_A1, th_S1, th_L1, th_A2, th_S2, th_L2, th_A3, th_S3, th_L3, th_A4, th_S4, th_L4, th_A5, th_S5, th_L5, th_A6, th_S6, th_L6, th_A7, th_S7, th_L7, th_A8, th_S8, th_L8, th_A9, th_S9, th_L9, th_A10, th_S10, th_L10, th_A11, th_S11, th_L11, th_A12, th_S12, th_L12, th_A13, th_S13, th_L13, th_A14, th_S14, th_L14, th_A15, th_S15, th_L15, th_A16, th_S16, th_L16, th_A17, th_S17, th_L17, hb_some, hbx_inr, hbx_inl, Option.bind_some, iLT_in, iLE_in, iEQ_in, iIN_in, rtZ_in, rtC_in, rtB_in, if_pos, if_neg, x_isFirm k1, iEQ_bZ]
      rw [show (t.2 0 1 - k).toNat = (t.2 0 1 - (k + 1)).toNat + 1 by omega]
      unfold cnt
      have o1 := x_one (h := TH b t h) (z := true)
      have o0 := x_one (h := TH b t h) (z := false)
      simp only [bZ, if_true, Bool.false_eq_true, if_false] at o1 o0
      by_cases g2 : t.2 0 (16 + k) < t.2 0 0
      · have := ih (n + 0, k + 1) ⟨by dsimp only; omega, by dsimp only; omega⟩ (by dsimp only; omega)
        simp only [g2, if_true, o0, hb_some, decide_true]
        rw [decide_eq_false (by omega : ¬ t.2 0 0 ≤ t.2 0 (16 + k))]
        rw [this, ← Int.add_assoc]
        rfl
      · have := ih (n + 1, k + 1) ⟨by dsimp only; omega, by dsimp only; omega⟩ (by dsimp only; omega)
        simp only [g2, if_false, o1, hb_some, decide_false, Bool.false_eq_true]
        rw [decide_eq_true (by omega : t.2 0 0 ≤ t.2 0 (16 + k))]
        rw [this, ← Int.add_assoc]
        rfl
/-- place number l, from i on, of those with p; -1 without one -/
def nthp (p : Int → Bool) (l i : Int) : Nat → Int
  | 0 => -1
  | n + 1 => if p i = true then (if l = 0 then i else nthp p (l - 1) (i + 1) n) else nthp p l (i + 1) n
def nth (p : Int → Bool) (k n : Int) : Int := if k < 0 then -1 else nthp p k 0 n.toNat
theorem x_nth {b : Nat} {t : TS} {h : HP} {p k : Int} {is : Bool} (ht : tOK t) (hl : tLt t) (h1 : 0 ≤ p) (h2 : p < t.2 0 2) (hk : inR k) :
    ∃ t', f_X9_nth b p k (bZ is) (TH b t h) = some (nth (fun q => if is = true then there t p q else cnd t p q) k (t.2 0 1), TH b t' h) ∧ tSc t t' := by
  have k3 := ht.2.2.1
  unfold f_X9_nth b_X9_nth_6
  have key := fx_FU (bot := fun (_ : Option Nat) (_ _ _ _ _ : Int) (_ : HP) => (none : Option (Int × HP))) (body := c_X9_nth_6)
    (fun F (s : Int × Int × TS) => F (some b) p k (bZ is) s.1 s.2.1 (TH b s.2.2 h)) (fun s => (0 ≤ s.2.1 ∧ s.2.1 ≤ t.2 0 1) ∧ tSc t s.2.2 ∧ (0 ≤ k → 0 ≤ s.1 ∧ s.1 ≤ k)) (fun s => (t.2 0 1 - s.2.1).toNat)
    (fun s v => ∃ t', v = some (if k < 0 then -1 else nthp (fun q => if is = true then there t p q else cnd t p q) s.1 s.2.1 (t.2 0 1 - s.2.1).toNat, TH b t' h) ∧ tSc t t') ?_ (k, 0, t) ⟨⟨by dsimp only; omega, by dsimp only; omega⟩, tSc.refl t, fun _ => ⟨by dsimp only; omega, by dsimp only; omega⟩⟩ (by dsimp only; omega)
  · dsimp only at key
    rw [Int.sub_zero] at key
    exact key
  · rintro rec ⟨l, q, u⟩ ⟨⟨h3, h4⟩, h5, h6⟩ ih
    dsimp only at h3 h4 h5 h6 ih ⊢
    have hz := h5.z
    have hu : tOK u := tOK_z hz ht
    have hlu : tLt u := tLt_z hz hl
    have e1 : u.2 0 1 = t.2 0 1 := by rw [hz]
    unfold c_X9_nth_6
    simp (discharger := omega) only [th_rcv, th_R0, th_R1, th_R2, th_R3, th_R4, th_R5, th_I6, th_W6, th_I7, th_W7, th_R8, th_R9, th_R10, th_R11, th_I12, th_W12, th_I13, th_W13, th_I14, th_W14, th_I15, th_W15, th_I16, th_W16, th_I17, th_W17, th_I18, th_W18, th_I19, th_W19, th_I20, th_W20, th_I21, th_W21, th_R22, th_R23, th_R24, th_R25, th_R26, th_R27, th_R28, th_I29, th_W29, th_I30, th_W30, th_I31, th_W31, th_R32, th_I33, th_W33, th_A0, th_S0, th_L0, th_A1, th_S1, th_L1, th_A2, th_S2, th_L2, th_A3, th_S3, th_L3, th_A4, th_S4, th_L4, th_A5, th_S5, th_L5, th_A6, th_S6, th_L6, th_A7, th_S7, th_L7, th_A8, th_S8, th_L8, th_A9, th_S9, th_L9, th_A10, th_S10, th_L10, th_A11, th_S11, th_L11, th_A12, th_S12, th_L12, th_A13, th_S13, th_L13, th_A14, th_S14, th_L14, th_A15, th_S15, th_L15, th_A16, th_S16, th_L16, th_A17, th_S17, th_L17, hb_some, hbx_inr, hbx_inl, Option.bind_some, iLT_in, iLE_in, iEQ_in, iIN_in, rtZ_in, rtC_in, rtB_in, if_pos, e1]
    by_cases g : t.2 0 1 ≤ q
    · rw [if_pos g]
      refine ⟨u, ?_, h5⟩
      rw [show (t.2 0 1 - q).toNat = 0 by omega]
      unfold b_X9_nth_68 nthp
      simp
    · rw [if_neg g]
      by_cases g1 : k < 0
      · rw [if_pos g1, if_pos g1]
        exact ⟨u, rfl, h5⟩
      · rw [if_neg g1, if_neg g1]
        have h7 := h6 (by omega)
        rw [show (t.2 0 1 - q).toNat = (t.2 0 1 - (q + 1)).toNat + 1 by omega]
        unfold nthp b_X9_nth_62 b_X9_nth_51 b_X9_nth_62
        have fin : ∀ (u' : TS) (z : Bool), tSc t u' → z = (if is = true then there t p q else cnd t p q) → ∃ t', (if z = true then iEQ l 0 (some (q, TH b u' h)) (rec (some b) p k (bZ is) (l + (-1)) (q + 1) (TH b u' h)) else rec (some b) p k (bZ is) l (q + 1) (TH b u' h)) =
            some (if (if is = true then there t p q else cnd t p q) = true then (if l = 0 then q else nthp (fun q => if is = true then there t p q else cnd t p q) (l - 1) (q + 1) (t.2 0 1 - (q + 1)).toNat) else nthp (fun q => if is = true then there t p q else cnd t p q) l (q + 1) (t.2 0 1 - (q + 1)).toNat, TH b t' h) ∧ tSc t t' := by
          intro u' z w1 w2
          rw [← w2]
          by_cases g3 : z = true
          · rw [if_pos g3, if_pos g3, iEQ_in (by omega) (by omega)]
            by_cases g4 : l = 0
            · rw [if_pos g4, if_pos g4]; exact ⟨u', rfl, w1⟩
            · rw [if_neg g4, if_neg g4]
              have := ih (l - 1, q + 1, u') ⟨⟨by dsimp only; omega, by dsimp only; omega⟩, w1, fun _ => ⟨by dsimp only; omega, by dsimp only; omega⟩⟩ (by dsimp only; omega)
              rw [if_neg g1] at this
              exact this
          · rw [if_neg g3, if_neg g3]
            have := ih (l, q + 1, u') ⟨⟨by dsimp only; omega, by dsimp only; omega⟩, w1, fun _ => ⟨by dsimp only; omega, by dsimp only; omega⟩⟩ (by dsimp only; omega)
            rw [if_neg g1] at this
            exact this
        rw [iEQ_bZ]
        cases is
        · obtain ⟨u', p1, p2⟩ := x_isCandidate (b := b) (h := h) (p := p) (q := q) hu hlu h1 (by rw [hz]; exact h2) h3 (by omega)
          simp (discharger := omega) only [th_rcv, th_R0, th_R1, th_R2, th_R3, th_R4, th_R5, th_I6, th_W6, th_I7, th_W7, th_R8, th_R9, th_R10, th_R11, th_I12, th_W12, th_I13, th_W13, th_I14, th_W14, th_I15, th_W15, th_I16, th_W16, th_I17, th_W17, th_I18, th_W18, th_I19, th_W19, th_I20, th_W20, th_I21, th_W21, th_R22, th_R23, th_R24, th_R25, th_R26, th_R27, th_R28, th_I29, th_W29, th_I30, th_W30, th_I31, th_W31, th_R32, th_I33, th_W33, th_A0, th_S0, th_L0, th_A1, th_S1, th_L1, th_A2, th_S2, th_L2, th_A3, th_S3, th_L3, th_A4, th_S4, th_L4, th_A5, th_S5, th_L5, th_A6, th_S6, th_L6, th_A7, th_S7, th_L7, th_A8, th_S8, th_L8, th_A9, th_S9, th_L9, th_A10, th_S10, th_L10, th_A11, th_S11, th_L11, th_A12, th_S12, th_L12, th_A13, th_S13, th_L13, th_A14, th_S14, th_L14, th_A15, th_S15, th_L15, th_A16, th_S16, th_L16, th_A17, th_S17, th_L17, hb_some, hbx_inr, hbx_inl, Option.bind_some, iLT_in, iLE_in, iEQ_in, iIN_in, rtZ_in, rtC_in, rtB_in, if_pos, p1, iEQ_bZ, Bool.false_eq_true, if_false]
          have fz := fin u' (cnd u p q) (h5.trans p2) (by rw [cnd_z hz]; rfl)
          simp (discharger := omega) only [iEQ_in, Bool.false_eq_true, if_false] at fz
          exact fz
        · simp (discharger := omega) only [th_rcv, th_R0, th_R1, th_R2, th_R3, th_R4, th_R5, th_I6, th_W6, th_I7, th_W7, th_R8, th_R9, th_R10, th_R11, th_I12, th_W12, th_I13, th_W13, th_I14, th_W14, th_I15, th_W15, th_I16, th_W16, th_I17, th_W17, th_I18, th_W18, th_I19, th_W19, th_I20, th_W20, th_I21, th_W21, th_R22, th_R23, th_R24, th_R25, th_R26, th_R27, th_R28, th_I29, th_W29, th_I30, th_W30, th_I31, th_W31, th_R32, th_I33, th_W33, th_A0, th_S0, th_L0, th_A1, th_S1, th_L1, th_A2, th_S2, th_L2, th_A3, th_S3, th_L3, th_A4, th_S4, th_L4, th_A5, th_S5, th_L5, th_A6, th_S6, th_L6, th_A7, th_S7, th_L7, th_A8, th_S8, th_L8, th_A9, th_S9, th_L9, th_A10, th_S10, th_L10, th_A11, th_S11, th_L11, th_A12, th_S12, th_L12, th_A13, th_S13, th_L13, th_A14, th_S14, th_L14, th_A15, th_S15, th_L15, th_A16, th_S16, th_L16, th_A17, th_S17, th_L17, hb_some, hbx_inr, hbx_inl, Option.bind_some, iLT_in, iLE_in, iEQ_in, iIN_in, rtZ_in, rtC_in, rtB_in, if_pos, iEQ_bZ, if_true]
          rw [x_isThere hu h1 (by rw [hz]; exact h2) h3 (by omega)]
          simp only [hb_some, iEQ_bZ]
          have fz := fin u (there u p q) h5 (by rw [there_z hz]; rfl)
          simp (discharger := omega) only [iEQ_in, if_true] at fz
          exact fz
/-- no window ahead of it is alike -/
def neww (t : TS) (q m : Int) : Bool := (fnd (fun k => decide (al (tx t k) (tx t q) (t.2 0 0) m = m)) 0 q.toNat).isNone
theorem x_isNewWindow {b : Nat} {t : TS} {h : HP} {q m : Int} (ht : tOK t) (h1 : 0 ≤ q) (hm : 1 ≤ m) (h2 : q + m ≤ t.2 0 1) : f_X9_isNewWindow b q m (TH b t h) = some (bZ (neww t q m), TH b t h) := by
  obtain ⟨k1, k2, k3, k4, k5, k6⟩ := ht
  unfold f_X9_isNewWindow b_X9_isNewWindow_2
  have key := fx_FU (bot := fun (_ : Option Nat) (_ _ _ : Int) (_ : HP) => (none : Option (Int × HP))) (body := c_X9_isNewWindow_2)
    (fun F (k : Int) => F (some b) q m k (TH b t h)) (fun k => 0 ≤ k ∧ k ≤ q) (fun k => (q - k).toNat)
    (fun k v => v = some (bZ (fnd (fun k => decide (al (tx t k) (tx t q) (t.2 0 0) m = m)) k (q - k).toNat).isNone, TH b t h)) ?_ 0 ⟨by omega, by omega⟩ (by omega)
  · rw [key, Int.sub_zero]; rfl
  · rintro rec k ⟨h3, h4⟩ ih
    unfold c_X9_isNewWindow_2 f_X9_textFrom
    by_cases g : q ≤ k
    · rw [show k = q by omega]
      simp (discharger := omega) only [th_rcv, th_R0, th_R1, th_R2, th_R3, th_R4, th_R5, th_I6, th_W6, th_I7, th_W7, th_R8, th_R9, th_R10, th_R11, th_I12, th_W12, th_I13, th_W13, th_I14, th_W14, th_I15, th_W15, th_I16, th_W16, th_I17, th_W17, th_I18, th_W18, th_I19, th_W19, th_I20, th_W20, th_I21, th_W21, th_R22, th_R23, th_R24, th_R25, th_R26, th_R27, th_R28, th_I29, th_W29, th_I30, th_W30, th_I31, th_W31, th_R32, th_I33, th_W33, th_A0, th_S0, th_L0, th_A1, th_S1, th_L1, th_A2, th_S2, th_L2, th_A3, th_S3, th_L3, th_A4, th_S4, th_L4, th_A5, th_S5, th_L5, th_A6, th_S6, th_L6, th_A7, th_S7, th_L7, th_A8, th_S8, th_L8, th_A9, th_S9, th_L9, th_A10, th_S10, th_L10, th_A11, th_S11, th_L11, th_A12, th_S12, th_L12, th_A13, th_S13, th_L13, th_A14, th_S14, th_L14, th_A15, th_S15, th_L15, th_A16, th_S16, th_L16, th_A17, th_S17, th_L17, hb_some, hbx_inr, hbx_inl, Option.bind_some, iLT_in, iLE_in, iEQ_in, iIN_in, rtZ_in, rtC_in, rtB_in, if_pos]
      rw [show (q - q).toNat = 0 by omega]
      rfl
    · have := x_areAlike (b := b) (t := t) (h := h) (one := 16 + k) (two := 16 + q) (m := m) k1 (by omega) (by omega) (by omega) (by omega) (by omega)
      simp (discharger := omega) only [th_rcv, th_R0, th_R1, th_R2, th_R3, th_R4, th_R5, th_I6, th_W6, th_I7, th_W7, th_R8, th_R9, th_R10, th_R11, th_I12, th_W12, th_I13, th_W13, th_I14, th_W14, th_I15, th_W15, th_I16, th_W16, th_I17, th_W17, th_I18, th_W18, th_I19, th_W19, th_I20, th_W20, th_I21, th_W21, th_R22, th_R23, th_R24, th_R25, th_R26, th_R27, th_R28, th_I29, th_W29, th_I30, th_W30, th_I31, th_W31, th_R32, th_I33, th_W33, th_A0, th_S0, th_L0, th_A1, th_S1, th_L1, th_A2, th_S2, th_L2, th_A3, th_S3, th_L3, th_A4, th_S4, th_L4, th_A5, th_S5, th_L5, th_A6, th_S6, th_L6, th_A7, th_S7, th_L7, th_A8, th_S8, th_L8, th_A9, th_S9, th_L9, th_A10, th_S10, th_L10, th_A11, th_S11, th_L11, th_A12, th_S12, th_L12, th_A13, th_S13, th_L13, th_A14, th_S14, th_L14, th_A15, th_S15, th_L15, th_A16, th_S16, th_L16, th_A17, th_S17, th_L17, hb_some, hbx_inr, hbx_inl, Option.bind_some, iLT_in, iLE_in, iEQ_in, iIN_in, rtZ_in, rtC_in, rtB_in, if_pos, if_neg, this, iEQ_bZ]
      rw [show (q - k).toNat = (q - (k + 1)).toNat + 1 by omega]
      unfold fnd
      have i := ih (k + 1) ⟨by omega, by omega⟩ (by omega)
      by_cases g2 : al (tx t k) (tx t q) (t.2 0 0) m = m
      · have g3 : al (fun j => t.2 0 (16 + k + j)) (fun j => t.2 0 (16 + q + j)) (t.2 0 0) m = m := g2
        simp [g2, g3, bZ]
      · have g3 : ¬ al (fun j => t.2 0 (16 + k + j)) (fun j => t.2 0 (16 + q + j)) (t.2 0 0) m = m := g2
        simp only [g2, g3, decide_false, Bool.false_eq_true, if_false]
        exact i
def clss (t : TS) (m : Int) : Int := cnt (fun q => neww t q m) 0 (t.2 0 1 + 1 - m).toNat
theorem x_classes_l {b : Nat} {t : TS} {h : HP} {m : Int} (ht : tOK t) (hm : 1 ≤ m) (hm2 : m ≤ 200) : b_X9_classes_35 (some b) m 0 0 (TH b t h) = some (clss t m, TH b t h) := by
  have hh := ht
  obtain ⟨k1, k2, k3, k4, k5, k6⟩ := ht
  unfold b_X9_classes_35
  have key := fx_FU (bot := fun (_ : Option Nat) (_ _ _ : Int) (_ : HP) => (none : Option (Int × HP))) (body := c_X9_classes_35)
    (fun F (s : Int × Int) => F (some b) m s.1 s.2 (TH b t h)) (fun s => 0 ≤ s.2 ∧ s.2 ≤ 300) (fun s => (t.2 0 1 + 1 - m - s.2).toNat)
    (fun s v => v = some (s.1 + cnt (fun q => neww t q m) s.2 (t.2 0 1 + 1 - m - s.2).toNat, TH b t h)) ?_ (0, 0) ⟨by omega, by dsimp only; omega⟩ (by dsimp only; omega)
  · dsimp only at key
    rw [key, Int.zero_add, Int.sub_zero]; rfl
  · rintro rec ⟨n, k⟩ ⟨h3, h4⟩ ih
    dsimp only at h3 h4 ih ⊢
    unfold c_X9_classes_35
    simp (discharger := omega) only [th_rcv, th_R0, th_R1, th_R2, th_R3, th_R4, th_R5, th_I6, th_W6, th_I7, th_W7, th_R8, th_R9, th_R10, th_R11, th_I12, th_W12, th_I13, th_W13, th_I14, th_W14, th_I15, th_W15, th_I16, th_W16, th_I17, th_W17, th_I18, th_W18, th_I19, th_W19, th_I20, th_W20, th_I21, th_W21, th_R22, th_R23, th_R24, th_R25, th_R26, th_R27, th_R28, th_I29, th_W29, th_I30, th_W30, th_I31, th_W31, th_R32, th_I33, th_W33, th_A0, th_S0, th_L0, th_A1, th_S1, th_L1, th_A2, th_S2, th_L2, th_A3, th_S3, th_L3, th_A4, th_S4, th_L4, th_A5, th_S5, th_L5, th_A6, th_S6, th_L6, th_A7, th_S7, th_L7, th_A8, th_S8, th_L8, th_A9, th_S9, th_L9, th_A10, th_S10, th_L10, th_A11, th_S11, th_L11, th_A12, th_S12, th_L12, th_A13, th_S13, th_L13, th_A14, th_S14, th_L14, th_A15, th_S15, th_L15, th_A16, th_S16, th_L16, th_A17, th_S17, th_L17, hb_some, hbx_inr, hbx_inl, Option.bind_some, iLT_in, iLE_in, iEQ_in, iIN_in, rtZ_in, rtC_in, rtB_in, if_pos]
    by_cases g : t.2 0 1 < k + m
    · rw [if_pos g, show (t.2 0 1 + 1 - m - k).toNat = 0 by omega]
      simp [cnt]
    · rw [if_neg g, x_isNewWindow hh h3 hm (by omega)]
      simp only [hb_some, x_one]
      rw [show (t.2 0 1 + 1 - m - k).toNat = (t.2 0 1 + 1 - m - (k + 1)).toNat + 1 by omega]
      unfold cnt
      have := ih (n + bZ (neww t k m), k + 1) ⟨by dsimp only; omega, by dsimp only; omega⟩ (by dsimp only; omega)
      rw [this, ← Int.add_assoc]
      rfl
