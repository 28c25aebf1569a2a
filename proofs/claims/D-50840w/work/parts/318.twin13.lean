/-! STAGE 2p: the reference: what is refused, and what is kept. -/
set_option maxRecDepth 100000
theorem astZ_in {h : HP} {r : Option Nat} {i v : Int} (hv : v = 0 ∨ v = 1) : astZ h r i v = astI h .boolean r i v := if_pos hv
/-- thrown -/
def thr (t : TS) (k : Int) : TS := (upN t.1 7 k, t.2)
theorem thr_7 {t : TS} {k : Int} : (thr t k).1 7 = k := by simp [thr, upN]
theorem thr_2 {t : TS} {k : Int} : (thr t k).2 = t.2 := rfl
theorem thr_thr {t : TS} {k l : Int} : thr (thr t k) l = thr t l := by
  unfold thr
  refine Prod.ext ?_ rfl
  funext j
  show upN (upN t.1 7 k) 7 l j = upN t.1 7 l j
  unfold upN
  by_cases e : j = 7
  · rw [if_pos e, if_pos e]
  · rw [if_neg e, if_neg e, if_neg e]
theorem x_in {a lo hi : Int} {h : HP} (ha : inR a) (hl : inR lo) (hh : inR hi) : f_X9_in a lo hi h = some (bZ (decide (lo ≤ a ∧ a ≤ hi)), h) := by
  unfold f_X9_in b_X9_in_14 b_X9_in_15
  rw [iLT_in ha hl, iLT_in hh ha]
  by_cases g : a < lo
  · rw [if_pos g, rtZ_in (Or.inl rfl), decide_eq_false (by omega)]; rfl
  · rw [if_neg g]
    by_cases g2 : hi < a
    · rw [if_pos g2, rtZ_in (Or.inl rfl), decide_eq_false (by omega)]; rfl
    · rw [if_neg g2, rtZ_in (Or.inr rfl), decide_eq_true (by omega)]; rfl
theorem x_fails {b : Nat} {t : TS} {h : HP} {z : Bool} {k : Int} (hk : k ≠ 0) (hk2 : inR k) (h0 : t.1 7 = 0) : f_X9_fails b (bZ z) k (TH b t h) = some (bZ z, TH b (if z = true then thr t k else t) h) := by
  unfold f_X9_fails b_X9_fails_16 b_X9_fails_28
  have e7 : upN t.1 7 k 7 = k := by simp [upN]
  simp (discharger := omega) only [th_rcv, th_R0, th_R1, th_R2, th_R3, th_R4, th_R5, th_I6, th_W6, th_I7, th_W7, th_R8, th_R9, th_R10, th_R11, th_I12, th_W12, th_I13, th_W13, th_I14, th_W14, th_I15, th_W15, th_I16, th_W16, th_I17, th_W17, th_I18, th_W18, th_I19, th_W19, th_I20, th_W20, th_I21, th_W21, th_R22, th_R23, th_R24, th_R25, th_R26, th_R27, th_R28, th_I29, th_W29, th_I30, th_W30, th_I31, th_W31, th_R32, th_I33, th_W33, th_A0, th_S0, th_L0, th_A1, th_S1, th_L1, th_A2, th_S2, th_L2, th_A3, th_S3, th_L3, th_A4, th_S4, th_L4, th_A5, th_S5, th_L5, th_A6, th_S6, th_L6, th_A7, th_S7, th_L7, th_A8, th_S8, th_L8, th_A9, th_S9, th_L9, th_A10, th_S10, th_L10, th_A11, th_S11, th_L11, th_A12, th_S12, th_L12, th_A13, th_S13, th_L13, th_A14, th_S14, th_L14, th_A15, th_S15, th_L15, th_A16, th_S16, th_L16, th_A17, th_S17, th_L17, hb_some, hbx_inr, hbx_inl, Option.bind_some, iLT_in, iLE_in, iEQ_in, iIN_in, rtZ_in, rtC_in, rtB_in, if_pos, h0, iEQ_bZ, e7]
  cases z
  · simp [bZ]
  · simp [bZ, hk, thr]
theorem x_noOne {b : Nat} {t : TS} {h : HP} {a k : Int} (ha : inR a) (hk : k ≠ 0) (hk2 : inR k) (h0 : t.1 7 = 0) : f_X9_noOne b a k (TH b t h) = some (bZ (!decide (0 ≤ a ∧ a ≤ 200)), TH b (if 0 ≤ a ∧ a ≤ 200 then t else thr t k) h) := by
  unfold f_X9_noOne b_X9_noOne_17
  rw [x_in ha (by omega) (by omega)]
  simp only [hb_some, iEQ_bZ]
  have f1 := x_fails (b := b) (t := t) (h := h) (z := true) hk hk2 h0
  have f0 := x_fails (b := b) (t := t) (h := h) (z := false) hk hk2 h0
  simp only [bZ, if_true, Bool.false_eq_true, if_false] at f1 f0
  by_cases g : 0 ≤ a ∧ a ≤ 200
  · simp only [g, and_self, decide_true, if_true, th_rcv, Option.bind_some, f0, hb_some, rtZ, or_true, true_or, Bool.not_true, bZ, Bool.false_eq_true, if_false]
  · simp only [g, decide_false, Bool.false_eq_true, if_false, th_rcv, Option.bind_some, f1, hb_some, rtZ, or_true, if_true, Bool.not_false, bZ]
theorem x_noLetter {b : Nat} {t : TS} {h : HP} {a k : Int} (ha : inR a) (hk : k ≠ 0) (hk2 : inR k) (h0 : t.1 7 = 0) : f_X9_noLetter b a k (TH b t h) = some (bZ (!decide (0 ≤ a ∧ a ≤ 25)), TH b (if 0 ≤ a ∧ a ≤ 25 then t else thr t k) h) := by
  unfold f_X9_noLetter b_X9_noLetter_16
  rw [x_in ha (by omega) (by omega)]
  simp only [hb_some, iEQ_bZ]
  have f1 := x_fails (b := b) (t := t) (h := h) (z := true) hk hk2 h0
  have f0 := x_fails (b := b) (t := t) (h := h) (z := false) hk hk2 h0
  simp only [bZ, if_true, Bool.false_eq_true, if_false] at f1 f0
  by_cases g : 0 ≤ a ∧ a ≤ 25
  · simp only [g, and_self, decide_true, if_true, th_rcv, Option.bind_some, f0, hb_some, rtZ, or_true, true_or, Bool.not_true, bZ, Bool.false_eq_true, if_false]
  · simp only [g, decide_false, Bool.false_eq_true, if_false, th_rcv, Option.bind_some, f1, hb_some, rtZ, or_true, if_true, Bool.not_false, bZ]
theorem x_noSlot {b : Nat} {t : TS} {h : HP} {a : Int} (ha : inR a) (h0 : t.1 7 = 0) : f_X9_noSlot b a (TH b t h) = some (bZ (!decide (0 ≤ a ∧ a ≤ 1)), TH b (if 0 ≤ a ∧ a ≤ 1 then t else thr t 1) h) := by
  unfold f_X9_noSlot b_X9_noSlot_15
  rw [x_in ha (by omega) (by omega)]
  simp only [hb_some, iEQ_bZ]
  have f1 := x_fails (b := b) (t := t) (h := h) (z := true) (k := 1) (by omega) (by omega) h0
  have f0 := x_fails (b := b) (t := t) (h := h) (z := false) (k := 1) (by omega) (by omega) h0
  simp only [bZ, if_true, Bool.false_eq_true, if_false] at f1 f0
  by_cases g : 0 ≤ a ∧ a ≤ 1
  · simp only [g, and_self, decide_true, if_true, th_rcv, Option.bind_some, f0, hb_some, rtZ, or_true, true_or, Bool.not_true, bZ, Bool.false_eq_true, if_false]
  · simp only [g, decide_false, Bool.false_eq_true, if_false, th_rcv, Option.bind_some, f1, hb_some, rtZ, or_true, if_true, Bool.not_false, bZ]
theorem x_noPlace {b : Nat} {t : TS} {h : HP} {a : Int} (ht : tOK t) (ha : inR a) (h0 : t.1 7 = 0) : f_X9_noPlace b a (TH b t h) = some (bZ (!decide (0 ≤ a ∧ a < t.2 0 1)), TH b (if 0 ≤ a ∧ a < t.2 0 1 then t else thr t 1) h) := by
  have h1 := ht.2.2.1
  unfold f_X9_noPlace b_X9_noPlace_22
  simp (discharger := omega) only [th_rcv, th_R0, th_R1, th_R2, th_R3, th_R4, th_R5, th_I6, th_W6, th_I7, th_W7, th_R8, th_R9, th_R10, th_R11, th_I12, th_W12, th_I13, th_W13, th_I14, th_W14, th_I15, th_W15, th_I16, th_W16, th_I17, th_W17, th_I18, th_W18, th_I19, th_W19, th_I20, th_W20, th_I21, th_W21, th_R22, th_R23, th_R24, th_R25, th_R26, th_R27, th_R28, th_I29, th_W29, th_I30, th_W30, th_I31, th_W31, th_R32, th_I33, th_W33, th_A0, th_S0, th_L0, th_A1, th_S1, th_L1, th_A2, th_S2, th_L2, th_A3, th_S3, th_L3, th_A4, th_S4, th_L4, th_A5, th_S5, th_L5, th_A6, th_S6, th_L6, th_A7, th_S7, th_L7, th_A8, th_S8, th_L8, th_A9, th_S9, th_L9, th_A10, th_S10, th_L10, th_A11, th_S11, th_L11, th_A12, th_S12, th_L12, th_A13, th_S13, th_L13, th_A14, th_S14, th_L14, th_A15, th_S15, th_L15, th_A16, th_S16, th_L16, th_A17, th_S17, th_L17, hb_some, hbx_inr, hbx_inl, Option.bind_some, iLT_in, iLE_in, iEQ_in, iIN_in, rtZ_in, rtC_in, rtB_in, if_pos]
  rw [x_in ha (by omega) (by omega)]
  simp only [hb_some, iEQ_bZ]
  have f1 := x_fails (b := b) (t := t) (h := h) (z := true) (k := 1) (by omega) (by omega) h0
  have f0 := x_fails (b := b) (t := t) (h := h) (z := false) (k := 1) (by omega) (by omega) h0
  simp only [bZ, if_true, Bool.false_eq_true, if_false] at f1 f0
  have e : (0 ≤ a ∧ a ≤ t.2 0 1 - 1) ↔ (0 ≤ a ∧ a < t.2 0 1) := by omega
  simp only [e]
  by_cases g : 0 ≤ a ∧ a < t.2 0 1
  · simp only [g, and_self, decide_true, if_true, th_rcv, Option.bind_some, f0, hb_some, rtZ, or_true, true_or, Bool.not_true, bZ, Bool.false_eq_true, if_false]
  · simp only [g, decide_false, Bool.false_eq_true, if_false, th_rcv, Option.bind_some, f1, hb_some, rtZ, or_true, if_true, Bool.not_false, bZ]
theorem x_noPattern {b : Nat} {t : TS} {h : HP} {a : Int} (ht : tOK t) (ha : inR a) (h0 : t.1 7 = 0) : f_X9_noPattern b a (TH b t h) = some (bZ (!decide (0 ≤ a ∧ a < t.2 0 2)), TH b (if 0 ≤ a ∧ a < t.2 0 2 then t else thr t 1) h) := by
  have h1 := ht.2.2.2.1
  unfold f_X9_noPattern b_X9_noPattern_22
  simp (discharger := omega) only [th_rcv, th_R0, th_R1, th_R2, th_R3, th_R4, th_R5, th_I6, th_W6, th_I7, th_W7, th_R8, th_R9, th_R10, th_R11, th_I12, th_W12, th_I13, th_W13, th_I14, th_W14, th_I15, th_W15, th_I16, th_W16, th_I17, th_W17, th_I18, th_W18, th_I19, th_W19, th_I20, th_W20, th_I21, th_W21, th_R22, th_R23, th_R24, th_R25, th_R26, th_R27, th_R28, th_I29, th_W29, th_I30, th_W30, th_I31, th_W31, th_R32, th_I33, th_W33, th_A0, th_S0, th_L0, th_A1, th_S1, th_L1, th_A2, th_S2, th_L2, th_A3, th_S3, th_L3, th_A4, th_S4, th_L4, th_A5, th_S5, th_L5, th_A6, th_S6, th_L6, th_A7, th_S7, th_L7, th_A8, th_S8, th_L8, th_A9, th_S9, th_L9, th_A10, th_S10, th_L10, th_A11, th_S11, th_L11, th_A12, th_S12, th_L12, th_A13, th_S13, th_L13, th_A14, th_S14, th_L14, th_A15, th_S15, th_L15, th_A16, th_S16, th_L16, th_A17, th_S17, th_L17, hb_some, hbx_inr, hbx_inl, Option.bind_some, iLT_in, iLE_in, iEQ_in, iIN_in, rtZ_in, rtC_in, rtB_in, if_pos]
  rw [x_in ha (by omega) (by omega)]
  simp only [hb_some, iEQ_bZ]
  have f1 := x_fails (b := b) (t := t) (h := h) (z := true) (k := 1) (by omega) (by omega) h0
  have f0 := x_fails (b := b) (t := t) (h := h) (z := false) (k := 1) (by omega) (by omega) h0
  simp only [bZ, if_true, Bool.false_eq_true, if_false] at f1 f0
  have e : (0 ≤ a ∧ a ≤ t.2 0 2 - 1) ↔ (0 ≤ a ∧ a < t.2 0 2) := by omega
  simp only [e]
  by_cases g : 0 ≤ a ∧ a < t.2 0 2
  · simp only [g, and_self, decide_true, if_true, th_rcv, Option.bind_some, f0, hb_some, rtZ, or_true, true_or, Bool.not_true, bZ, Bool.false_eq_true, if_false]
  · simp only [g, decide_false, Bool.false_eq_true, if_false, th_rcv, Option.bind_some, f1, hb_some, rtZ, or_true, if_true, Bool.not_false, bZ]
/-- rows, as far as they go -/
def rEq (r r' : Int → Int) : Prop := ∀ i, 0 ≤ i → i < 576 → r' i = r i
theorem rEq.k {r r' : Int → Int} (h : rEq r r') (hk : kOK (kOf r)) (h3 : 0 ≤ r 3) : kEq (kOf r) (kOf r') := by
  have h1 : 1 ≤ r 1 ∧ r 1 ≤ 200 := hk.1
  have h2 : 0 ≤ r 2 ∧ r 2 ≤ 8 := hk.2.2.1
  have h60 : (kMl r).length ≤ 60 := hk.2.2.2.1
  refine ⟨h 1 (by omega) (by omega), h 0 (by omega) (by omega), h 2 (by omega) (by omega), ?_, fun k a b => ?_, fun p a b => ?_, fun p k a b c d => ?_, fun a b c => h _ (by omega) (by omega)⟩
  · show kMl r' = kMl r
    have h60' : (r 3).toNat ≤ 60 := by
      unfold kMl at h60
      rwa [List.length_map, List.length_range] at h60
    unfold kMl
    rw [h 3 (by omega) (by omega)]
    refine List.map_congr_left fun i hi => ?_
    have hi := List.mem_range.mp hi
    rw [h _ (by omega) (by omega), h _ (by omega) (by omega)]
  · have b : k < r 1 := b
    exact h _ (by omega) (by omega)
  · have b : p < r 2 := b
    exact h _ (by omega) (by omega)
  · have b : p < r 2 := b
    have d2 := (hk.2.2.2.2.2.1 p a b).2
    have d : k < kl (kOf r) p := d
    exact h _ (by omega) (by omega)
/-- row number j of the past -/
def prow (t : TS) (j : Int) : Int → Int := fun i => t.2 3 (576 * j + i)
theorem x_holds {b : Nat} {t : TS} {h : HP} : ∃ t', f_X9_holds b (TH b t h) = some ((), TH b t' h) ∧ t'.1 = t.1 ∧ (∀ j, j ≠ 2 → t'.2 j = t.2 j) ∧ rEq (t.2 0) (t'.2 2) := by
  obtain ⟨t', p1, p2, p3, p4⟩ := x_lays_0_2 (b := b) (t := t) (h := h) (at' := 0) (into := 0) (by omega) (by omega) (by omega) (by omega)
  unfold f_X9_holds
  simp (discharger := omega) only [th_rcv, th_R0, th_R1, th_R2, th_R3, th_R4, th_R5, th_I6, th_W6, th_I7, th_W7, th_R8, th_R9, th_R10, th_R11, th_I12, th_W12, th_I13, th_W13, th_I14, th_W14, th_I15, th_W15, th_I16, th_W16, th_I17, th_W17, th_I18, th_W18, th_I19, th_W19, th_I20, th_W20, th_I21, th_W21, th_R22, th_R23, th_R24, th_R25, th_R26, th_R27, th_R28, th_I29, th_W29, th_I30, th_W30, th_I31, th_W31, th_R32, th_I33, th_W33, th_A0, th_S0, th_L0, th_A1, th_S1, th_L1, th_A2, th_S2, th_L2, th_A3, th_S3, th_L3, th_A4, th_S4, th_L4, th_A5, th_S5, th_L5, th_A6, th_S6, th_L6, th_A7, th_S7, th_L7, th_A8, th_S8, th_L8, th_A9, th_S9, th_L9, th_A10, th_S10, th_L10, th_A11, th_S11, th_L11, th_A12, th_S12, th_L12, th_A13, th_S13, th_L13, th_A14, th_S14, th_L14, th_A15, th_S15, th_L15, th_A16, th_S16, th_L16, th_A17, th_S17, th_L17, hb_some, hbx_inr, hbx_inl, Option.bind_some, iLT_in, iLE_in, iEQ_in, iIN_in, rtZ_in, rtC_in, rtB_in, if_pos, p1]
  refine ⟨t', rfl, p2, p3, fun i a c => ?_⟩
  rw [p4, if_pos (by omega), show 0 + (i - 0) = i by omega]
theorem x_remembers_0 {b : Nat} {t : TS} {h : HP} (h0 : 0 ≤ t.1 6) (h8 : t.1 6 ≤ 8) : ∃ t', f_X9_remembers b (some (b + 1)) (TH b t h) = some ((), TH b t' h) ∧ (∀ j, j ≠ 6 → t'.1 j = t.1 j) ∧ (∀ j, j ≠ 3 → t'.2 j = t.2 j) ∧ t'.1 6 = (if t.1 6 = 8 then 8 else t.1 6 + 1) ∧
    rEq (t.2 0) (prow t' (t'.1 6 - 1)) ∧ ∀ j, 0 ≤ j → j < t'.1 6 - 1 → rEq (prow t (if t.1 6 = 8 then j + 1 else j)) (prow t' j) := by
  have tail : ∀ u : TS, 0 ≤ u.1 6 → u.1 6 ≤ 7 → ∃ t', b_X9_remembers_50 (some b) (some (b + 1)) (TH b u h) = some ((), TH b t' h) ∧ (∀ j, j ≠ 6 → t'.1 j = u.1 j) ∧ (∀ j, j ≠ 3 → t'.2 j = u.2 j) ∧ t'.1 6 = u.1 6 + 1 ∧ rEq (u.2 0) (prow t' (u.1 6)) ∧ ∀ j, 0 ≤ j → j < u.1 6 → rEq (prow u j) (prow t' j) := by
    intro u u0 u7
    obtain ⟨t', p1, p2, p3, p4⟩ := x_lays_0_3 (b := b) (t := u) (h := h) (at' := 0) (into := 576 * u.1 6) (by omega) (by omega) (by omega) (by omega)
    unfold b_X9_remembers_50
    simp (discharger := omega) only [th_rcv, th_R0, th_R1, th_R2, th_R3, th_R4, th_R5, th_I6, th_W6, th_I7, th_W7, th_R8, th_R9, th_R10, th_R11, th_I12, th_W12, th_I13, th_W13, th_I14, th_W14, th_I15, th_W15, th_I16, th_W16, th_I17, th_W17, th_I18, th_W18, th_I19, th_W19, th_I20, th_W20, th_I21, th_W21, th_R22, th_R23, th_R24, th_R25, th_R26, th_R27, th_R28, th_I29, th_W29, th_I30, th_W30, th_I31, th_W31, th_R32, th_I33, th_W33, th_A0, th_S0, th_L0, th_A1, th_S1, th_L1, th_A2, th_S2, th_L2, th_A3, th_S3, th_L3, th_A4, th_S4, th_L4, th_A5, th_S5, th_L5, th_A6, th_S6, th_L6, th_A7, th_S7, th_L7, th_A8, th_S8, th_L8, th_A9, th_S9, th_L9, th_A10, th_S10, th_L10, th_A11, th_S11, th_L11, th_A12, th_S12, th_L12, th_A13, th_S13, th_L13, th_A14, th_S14, th_L14, th_A15, th_S15, th_L15, th_A16, th_S16, th_L16, th_A17, th_S17, th_L17, hb_some, hbx_inr, hbx_inl, Option.bind_some, iLT_in, iLE_in, iEQ_in, iIN_in, rtZ_in, rtC_in, rtB_in, if_pos, p1, p2]
    refine ⟨_, rfl, fun j hj => ?_, p3, ?_, fun i a c => ?_, fun j a c i d e => ?_⟩
    · dsimp only
      rw [upN_ne hj]
    · dsimp only
      simp [upN]
    · show t'.2 3 (576 * u.1 6 + i) = _
      rw [p4, if_pos (by omega), show 0 + (576 * u.1 6 + i - 576 * u.1 6) = i by omega]
    · show t'.2 3 (576 * j + i) = u.2 3 (576 * j + i)
      rw [p4, if_neg (by omega)]
  unfold f_X9_remembers
  simp (discharger := omega) only [th_rcv, th_R0, th_R1, th_R2, th_R3, th_R4, th_R5, th_I6, th_W6, th_I7, th_W7, th_R8, th_R9, th_R10, th_R11, th_I12, th_W12, th_I13, th_W13, th_I14, th_W14, th_I15, th_W15, th_I16, th_W16, th_I17, th_W17, th_I18, th_W18, th_I19, th_W19, th_I20, th_W20, th_I21, th_W21, th_R22, th_R23, th_R24, th_R25, th_R26, th_R27, th_R28, th_I29, th_W29, th_I30, th_W30, th_I31, th_W31, th_R32, th_I33, th_W33, th_A0, th_S0, th_L0, th_A1, th_S1, th_L1, th_A2, th_S2, th_L2, th_A3, th_S3, th_L3, th_A4, th_S4, th_L4, th_A5, th_S5, th_L5, th_A6, th_S6, th_L6, th_A7, th_S7, th_L7, th_A8, th_S8, th_L8, th_A9, th_S9, th_L9, th_A10, th_S10, th_L10, th_A11, th_S11, th_L11, th_A12, th_S12, th_L12, th_A13, th_S13, th_L13, th_A14, th_S14, th_L14, th_A15, th_S15, th_L15, th_A16, th_S16, th_L16, th_A17, th_S17, th_L17, hb_some, hbx_inr, hbx_inl, Option.bind_some, iLT_in, iLE_in, iEQ_in, iIN_in, rtZ_in, rtC_in, rtB_in, if_pos]
  by_cases g : t.1 6 = 8
  · rw [if_pos g]
    unfold b_X9_remembers_11
    have key := fx_FU (bot := fun (_ _ : Option Nat) (_ : Int) (_ : HP) => (none : Option (Unit × HP))) (body := c_X9_remembers_11)
      (fun F (s : Int × TS) => F (some b) (some (b + 1)) s.1 (TH b s.2 h)) (fun s => (0 ≤ s.1 ∧ s.1 ≤ 4032) ∧ s.2.1 = t.1 ∧ (∀ j, j ≠ 3 → s.2.2 j = t.2 j) ∧ ∀ i, s.2.2 3 i = if 0 ≤ i ∧ i < s.1 then t.2 3 (i + 576) else t.2 3 i) (fun s => (4032 - s.1).toNat)
      (fun s v => ∃ t', v = some ((), TH b t' h) ∧ (∀ j, j ≠ 6 → t'.1 j = t.1 j) ∧ (∀ j, j ≠ 3 → t'.2 j = t.2 j) ∧ t'.1 6 = 8 ∧ rEq (t.2 0) (prow t' 7) ∧ ∀ j, 0 ≤ j → j < 7 → rEq (prow t (j + 1)) (prow t' j)) ?_
      (0, t) ⟨⟨by dsimp only; omega, by dsimp only; omega⟩, rfl, fun j _ => rfl, fun i => by dsimp only; rw [if_neg (by omega)]⟩ (by dsimp only; omega)
    · obtain ⟨t', p1, p2, p3, p4, p5, p6⟩ := key
      exact ⟨t', p1, p2, p3, by rw [p4, if_pos g], by rw [p4]; exact p5, fun j a c => by rw [if_pos g]; exact p6 j a (by omega)⟩
    · rintro rec ⟨k, u⟩ ⟨⟨z1, z2⟩, z3, z4, z5⟩ ih
      dsimp only at z1 z2 z3 z4 z5 ih ⊢
      unfold c_X9_remembers_11
      by_cases g1 : 4032 ≤ k
      · simp (discharger := omega) only [th_rcv, th_R0, th_R1, th_R2, th_R3, th_R4, th_R5, th_I6, th_W6, th_I7, th_W7, th_R8, th_R9, th_R10, th_R11, th_I12, th_W12, th_I13, th_W13, th_I14, th_W14, th_I15, th_W15, th_I16, th_W16, th_I17, th_W17, th_I18, th_W18, th_I19, th_W19, th_I20, th_W20, th_I21, th_W21, th_R22, th_R23, th_R24, th_R25, th_R26, th_R27, th_R28, th_I29, th_W29, th_I30, th_W30, th_I31, th_W31, th_R32, th_I33, th_W33, th_A0, th_S0, th_L0, th_A1, th_S1, th_L1, th_A2, th_S2, th_L2, th_A3, th_S3, th_L3, th_A4, th_S4, th_L4, th_A5, th_S5, th_L5, th_A6, th_S6, th_L6, th_A7, th_S7, th_L7, th_A8, th_S8, th_L8, th_A9, th_S9, th_L9, th_A10, th_S10, th_L10, th_A11, th_S11, th_L11, th_A12, th_S12, th_L12, th_A13, th_S13, th_L13, th_A14, th_S14, th_L14, th_A15, th_S15, th_L15, th_A16, th_S16, th_L16, th_A17, th_S17, th_L17, hb_some, hbx_inr, hbx_inl, Option.bind_some, iLT_in, iLE_in, iEQ_in, iIN_in, rtZ_in, rtC_in, rtB_in, if_pos, z3, g]
        obtain ⟨t', p1, p2, p3, p4, p5, p6⟩ := tail (upN u.1 6 (8 - 1), u.2) (by simp [upN]) (by simp [upN])
        rw [← z3]
        refine ⟨t', p1, fun j hj => by rw [p2 j hj]; dsimp only; rw [upN_ne hj], fun j hj => by rw [p3 j hj]; exact z4 j hj, by rw [p4]; simp [upN], ?_, fun j a c => ?_⟩
        · have e6 : upN u.1 6 (8 - 1) 6 = 7 := by simp [upN]
          dsimp only at p5
          rw [e6, z4 0 (by decide)] at p5
          exact p5
        · have e6 : upN u.1 6 (8 - 1) 6 = 7 := by simp [upN]
          dsimp only at p6
          rw [e6] at p6
          intro i d e
          rw [p6 j a c i d e]
          show u.2 3 (576 * j + i) = t.2 3 (576 * (j + 1) + i)
          rw [z5, if_pos (by omega), show 576 * j + i + 576 = 576 * (j + 1) + i by omega]
      · have ek : u.2 3 (k + 576) = t.2 3 (k + 576) := by rw [z5, if_neg (by omega)]
        simp (discharger := omega) only [th_rcv, th_R0, th_R1, th_R2, th_R3, th_R4, th_R5, th_I6, th_W6, th_I7, th_W7, th_R8, th_R9, th_R10, th_R11, th_I12, th_W12, th_I13, th_W13, th_I14, th_W14, th_I15, th_W15, th_I16, th_W16, th_I17, th_W17, th_I18, th_W18, th_I19, th_W19, th_I20, th_W20, th_I21, th_W21, th_R22, th_R23, th_R24, th_R25, th_R26, th_R27, th_R28, th_I29, th_W29, th_I30, th_W30, th_I31, th_W31, th_R32, th_I33, th_W33, th_A0, th_S0, th_L0, th_A1, th_S1, th_L1, th_A2, th_S2, th_L2, th_A3, th_S3, th_L3, th_A4, th_S4, th_L4, th_A5, th_S5, th_L5, th_A6, th_S6, th_L6, th_A7, th_S7, th_L7, th_A8, th_S8, th_L8, th_A9, th_S9, th_L9, th_A10, th_S10, th_L10, th_A11, th_S11, th_L11, th_A12, th_S12, th_L12, th_A13, th_S13, th_L13, th_A14, th_S14, th_L14, th_A15, th_S15, th_L15, th_A16, th_S16, th_L16, th_A17, th_S17, th_L17, hb_some, hbx_inr, hbx_inl, Option.bind_some, iLT_in, iLE_in, iEQ_in, iIN_in, rtZ_in, rtC_in, rtB_in, if_pos, if_neg, ek]
        refine ih (k + 1, _) ⟨⟨by dsimp only; omega, by dsimp only; omega⟩, z3, fun j hj => by dsimp only; rw [upN_ne hj]; exact z4 j hj, fun i => ?_⟩ (by dsimp only; omega)
        dsimp only
        unfold upN
        rw [if_pos rfl]
        by_cases e : i = k
        · rw [e, upI_eq, if_pos (by omega)]
        · rw [upI_ne e, z5]
          by_cases e2 : 0 ≤ i ∧ i < k
          · rw [if_pos e2, if_pos (by omega)]
          · rw [if_neg e2, if_neg (by omega)]
  · rw [if_neg g]
    obtain ⟨t', p1, p2, p3, p4, p5, p6⟩ := tail t h0 (by omega)
    refine ⟨t', p1, p2, p3, by rw [p4, if_neg g], by rw [p4, show t.1 6 + 1 - 1 = t.1 6 by omega]; exact p5, fun j a c => by rw [if_neg g]; exact p6 j a (by omega)⟩
theorem x_remembers_2 {b : Nat} {t : TS} {h : HP} (h0 : 0 ≤ t.1 6) (h8 : t.1 6 ≤ 8) : ∃ t', f_X9_remembers b (some (b + 3)) (TH b t h) = some ((), TH b t' h) ∧ (∀ j, j ≠ 6 → t'.1 j = t.1 j) ∧ (∀ j, j ≠ 3 → t'.2 j = t.2 j) ∧ t'.1 6 = (if t.1 6 = 8 then 8 else t.1 6 + 1) ∧
    rEq (t.2 2) (prow t' (t'.1 6 - 1)) ∧ ∀ j, 0 ≤ j → j < t'.1 6 - 1 → rEq (prow t (if t.1 6 = 8 then j + 1 else j)) (prow t' j) := by
  have tail : ∀ u : TS, 0 ≤ u.1 6 → u.1 6 ≤ 7 → ∃ t', b_X9_remembers_50 (some b) (some (b + 3)) (TH b u h) = some ((), TH b t' h) ∧ (∀ j, j ≠ 6 → t'.1 j = u.1 j) ∧ (∀ j, j ≠ 3 → t'.2 j = u.2 j) ∧ t'.1 6 = u.1 6 + 1 ∧ rEq (u.2 2) (prow t' (u.1 6)) ∧ ∀ j, 0 ≤ j → j < u.1 6 → rEq (prow u j) (prow t' j) := by
    intro u u0 u7
    obtain ⟨t', p1, p2, p3, p4⟩ := x_lays_2_3 (b := b) (t := u) (h := h) (at' := 0) (into := 576 * u.1 6) (by omega) (by omega) (by omega) (by omega)
    unfold b_X9_remembers_50
    simp (discharger := omega) only [th_rcv, th_R0, th_R1, th_R2, th_R3, th_R4, th_R5, th_I6, th_W6, th_I7, th_W7, th_R8, th_R9, th_R10, th_R11, th_I12, th_W12, th_I13, th_W13, th_I14, th_W14, th_I15, th_W15, th_I16, th_W16, th_I17, th_W17, th_I18, th_W18, th_I19, th_W19, th_I20, th_W20, th_I21, th_W21, th_R22, th_R23, th_R24, th_R25, th_R26, th_R27, th_R28, th_I29, th_W29, th_I30, th_W30, th_I31, th_W31, th_R32, th_I33, th_W33, th_A0, th_S0, th_L0, th_A1, th_S1, th_L1, th_A2, th_S2, th_L2, th_A3, th_S3, th_L3, th_A4, th_S4, th_L4, th_A5, th_S5, th_L5, th_A6, th_S6, th_L6, th_A7, th_S7, th_L7, th_A8, th_S8, th_L8, th_A9, th_S9, th_L9, th_A10, th_S10, th_L10, th_A11, th_S11, th_L11, th_A12, th_S12, th_L12, th_A13, th_S13, th_L13, th_A14, th_S14, th_L14, th_A15, th_S15, th_L15, th_A16, th_S16, th_L16, th_A17, th_S17, th_L17, hb_some, hbx_inr, hbx_inl, Option.bind_some, iLT_in, iLE_in, iEQ_in, iIN_in, rtZ_in, rtC_in, rtB_in, if_pos, p1, p2]
    refine ⟨_, rfl, fun j hj => ?_, p3, ?_, fun i a c => ?_, fun j a c i d e => ?_⟩
    · dsimp only
      rw [upN_ne hj]
    · dsimp only
      simp [upN]
    · show t'.2 3 (576 * u.1 6 + i) = _
      rw [p4, if_pos (by omega), show 0 + (576 * u.1 6 + i - 576 * u.1 6) = i by omega]
    · show t'.2 3 (576 * j + i) = u.2 3 (576 * j + i)
      rw [p4, if_neg (by omega)]
  unfold f_X9_remembers
  simp (discharger := omega) only [th_rcv, th_R0, th_R1, th_R2, th_R3, th_R4, th_R5, th_I6, th_W6, th_I7, th_W7, th_R8, th_R9, th_R10, th_R11, th_I12, th_W12, th_I13, th_W13, th_I14, th_W14, th_I15, th_W15, th_I16, th_W16, th_I17, th_W17, th_I18, th_W18, th_I19, th_W19, th_I20, th_W20, th_I21, th_W21, th_R22, th_R23, th_R24, th_R25, th_R26, th_R27, th_R28, th_I29, th_W29, th_I30, th_W30, th_I31, th_W31, th_R32, th_I33, th_W33, th_A0, th_S0, th_L0, th_A1, th_S1, th_L1, th_A2, th_S2, th_L2, th_A3, th_S3, th_L3, th_A4, th_S4, th_L4, th_A5, th_S5, th_L5, th_A6, th_S6, th_L6, th_A7, th_S7, th_L7, th_A8, th_S8, th_L8, th_A9, th_S9, th_L9, th_A10, th_S10, th_L10, th_A11, th_S11, th_L11, th_A12, th_S12, th_L12, th_A13, th_S13, th_L13, th_A14, th_S14, th_L14, th_A15, th_S15, th_L15, th_A16, th_S16, th_L16, th_A17, th_S17, th_L17, hb_some, hbx_inr, hbx_inl, Option.bind_some, iLT_in, iLE_in, iEQ_in, iIN_in, rtZ_in, rtC_in, rtB_in, if_pos]
  by_cases g : t.1 6 = 8
  · rw [if_pos g]
    unfold b_X9_remembers_11
    have key := fx_FU (bot := fun (_ _ : Option Nat) (_ : Int) (_ : HP) => (none : Option (Unit × HP))) (body := c_X9_remembers_11)
      (fun F (s : Int × TS) => F (some b) (some (b + 3)) s.1 (TH b s.2 h)) (fun s => (0 ≤ s.1 ∧ s.1 ≤ 4032) ∧ s.2.1 = t.1 ∧ (∀ j, j ≠ 3 → s.2.2 j = t.2 j) ∧ ∀ i, s.2.2 3 i = if 0 ≤ i ∧ i < s.1 then t.2 3 (i + 576) else t.2 3 i) (fun s => (4032 - s.1).toNat)
      (fun s v => ∃ t', v = some ((), TH b t' h) ∧ (∀ j, j ≠ 6 → t'.1 j = t.1 j) ∧ (∀ j, j ≠ 3 → t'.2 j = t.2 j) ∧ t'.1 6 = 8 ∧ rEq (t.2 2) (prow t' 7) ∧ ∀ j, 0 ≤ j → j < 7 → rEq (prow t (j + 1)) (prow t' j)) ?_
      (0, t) ⟨⟨by dsimp only; omega, by dsimp only; omega⟩, rfl, fun j _ => rfl, fun i => by dsimp only; rw [if_neg (by omega)]⟩ (by dsimp only; omega)
    · obtain ⟨t', p1, p2, p3, p4, p5, p6⟩ := key
      exact ⟨t', p1, p2, p3, by rw [p4, if_pos g], by rw [p4]; exact p5, fun j a c => by rw [if_pos g]; exact p6 j a (by omega)⟩
    · rintro rec ⟨k, u⟩ ⟨⟨z1, z2⟩, z3, z4, z5⟩ ih
      dsimp only at z1 z2 z3 z4 z5 ih ⊢
      unfold c_X9_remembers_11
      by_cases g1 : 4032 ≤ k
      · simp (discharger := omega) only [th_rcv, th_R0, th_R1, th_R2, th_R3, th_R4, th_R5, th_I6, th_W6, th_I7, th_W7, th_R8, th_R9, th_R10, th_R11, th_I12, th_W12, th_I13, th_W13, th_I14, th_W14, th_I15, th_W15, th_I16, th_W16, th_I17, th_W17, th_I18, th_W18, th_I19, th_W19, th_I20, th_W20, th_I21, th_W21, th_R22, th_R23, th_R24, th_R25, th_R26, th_R27, th_R28, th_I29, th_W29, th_I30, th_W30, th_I31, th_W31, th_R32, th_I33, th_W33, th_A0, th_S0, th_L0, th_A1, th_S1, th_L1, th_A2, th_S2, th_L2, th_A3, th_S3, th_L3, th_A4, th_S4, th_L4, th_A5, th_S5, th_L5, th_A6, th_S6, th_L6, th_A7, th_S7, th_L7, th_A8, th_S8, th_L8, th_A9, th_S9, th_L9, th_A10, th_S10, th_L10, th_A11, th_S11, th_L11, th_A12, th_S12, th_L12, th_A13, th_S13, th_L13, th_A14, th_S14, th_L14, th_A15, th_S15, th_L15, th_A16, th_S16, th_L16, th_A17, th_S17, th_L17, hb_some, hbx_inr, hbx_inl, Option.bind_some, iLT_in, iLE_in, iEQ_in, iIN_in, rtZ_in, rtC_in, rtB_in, if_pos, z3, g]
        obtain ⟨t', p1, p2, p3, p4, p5, p6⟩ := tail (upN u.1 6 (8 - 1), u.2) (by simp [upN]) (by simp [upN])
        rw [← z3]
        refine ⟨t', p1, fun j hj => by rw [p2 j hj]; dsimp only; rw [upN_ne hj], fun j hj => by rw [p3 j hj]; exact z4 j hj, by rw [p4]; simp [upN], ?_, fun j a c => ?_⟩
        · have e6 : upN u.1 6 (8 - 1) 6 = 7 := by simp [upN]
          dsimp only at p5
          rw [e6, z4 2 (by decide)] at p5
          exact p5
        · have e6 : upN u.1 6 (8 - 1) 6 = 7 := by simp [upN]
          dsimp only at p6
          rw [e6] at p6
          intro i d e
          rw [p6 j a c i d e]
          show u.2 3 (576 * j + i) = t.2 3 (576 * (j + 1) + i)
          rw [z5, if_pos (by omega), show 576 * j + i + 576 = 576 * (j + 1) + i by omega]
      · have ek : u.2 3 (k + 576) = t.2 3 (k + 576) := by rw [z5, if_neg (by omega)]
        simp (discharger := omega) only [th_rcv, th_R0, th_R1, th_R2, th_R3, th_R4, th_R5, th_I6, th_W6, th_I7, th_W7, th_R8, th_R9, th_R10, th_R11, th_I12, th_W12, th_I13, th_W13, th_I14, th_W14, th_I15, th_W15, th_I16, th_W16, th_I17, th_W17, th_I18, th_W18, th_I19, th_W19, th_I20, th_W20, th_I21, th_W21, th_R22, th_R23, th_R24, th_R25, th_R26, th_R27, th_R28, th_I29, th_W29, th_I30, th_W30, th_I31, th_W31, th_R32, th_I33, th_W33, th_A0, th_S0, th_L0, th_A1, th_S1, th_L1, th_A2, th_S2, th_L2, th_A3, th_S3, th_L3, th_A4, th_S4, th_L4, th_A5, th_S5, th_L5, th_A6, th_S6, th_L6, th_A7, th_S7, th_L7, th_A8, th_S8, th_L8, th_A9, th_S9, th_L9, th_A10, th_S10, th_L10, th_A11, th_S11, th_L11, th_A12, th_S12, th_L12, th_A13, th_S13, th_L13, th_A14, th_S14, th_L14, th_A15, th_S15, th_L15, th_A16, th_S16, th_L16, th_A17, th_S17, th_L17, hb_some, hbx_inr, hbx_inl, Option.bind_some, iLT_in, iLE_in, iEQ_in, iIN_in, rtZ_in, rtC_in, rtB_in, if_pos, if_neg, ek]
        refine ih (k + 1, _) ⟨⟨by dsimp only; omega, by dsimp only; omega⟩, z3, fun j hj => by dsimp only; rw [upN_ne hj]; exact z4 j hj, fun i => ?_⟩ (by dsimp only; omega)
        dsimp only
        unfold upN
        rw [if_pos rfl]
        by_cases e : i = k
        · rw [e, upI_eq, if_pos (by omega)]
        · rw [upI_ne e, z5]
          by_cases e2 : 0 ≤ i ∧ i < k
          · rw [if_pos e2, if_pos (by omega)]
          · rw [if_neg e2, if_neg (by omega)]
  · rw [if_neg g]
    obtain ⟨t', p1, p2, p3, p4, p5, p6⟩ := tail t h0 (by omega)
    refine ⟨t', p1, p2, p3, by rw [p4, if_neg g], by rw [p4, show t.1 6 + 1 - 1 = t.1 6 by omega]; exact p5, fun j a c => by rw [if_neg g]; exact p6 j a (by omega)⟩
