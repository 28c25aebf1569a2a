/-! STAGE 2t: the reference: further questions. -/
set_option maxRecDepth 100000
def oBackIn (K : SK) (q m : Int) : Int × Int := if 0 ≤ q ∧ q < kn K then (if (1 ≤ m ∧ m ≤ 200) ∧ q + m ≤ kn K then (bf (kw K q) (kf K) (m - 1), 0) else (0, 2)) else (0, 1)
theorem o_backIn {b : Nat} {t : TS} {h : HP} {q m : Int} (ht : tGo t) (hq : inR q) (hm : inR m) : ∃ t', f_X9_backIn b q m (TH b t h) = some ((oBackIn (kOf (t.2 0)) q m).1, TH b t' h) ∧ tOb t t' (oBackIn (kOf (t.2 0)) q m).2 := by
  have e : (upN t.1 7 0, t.2) = thr t 0 := rfl
  have h1 := kOK_n ht.1.2
  have en : kn (kOf (t.2 0)) = t.2 0 1 := rfl
  rw [en] at h1
  obtain ⟨f1, f0⟩ := x_failsP (b := b) (t := thr t 0) (h := h) (k := 2) (by omega) (by omega) thr_7
  have bad : b_X9_backIn_37 (some b) q m (some b) (TH b (thr t 0) h) = some (0, TH b (thr t 2) h) := by
    unfold b_X9_backIn_37 b_X9_backIn_42 b_X9_backIn_49
    simp only [th_rcv, Option.bind_some, f1, hb_some, i10]
    rw [thr_thr]
  unfold f_X9_backIn oBackIn
  simp (discharger := omega) only [th_rcv, th_R0, th_R1, th_R2, th_R3, th_R4, th_R5, th_I6, th_W6, th_I7, th_W7, th_R8, th_R9, th_R10, th_R11, th_I12, th_W12, th_I13, th_W13, th_I14, th_W14, th_I15, th_W15, th_I16, th_W16, th_I17, th_W17, th_I18, th_W18, th_I19, th_W19, th_I20, th_W20, th_I21, th_W21, th_R22, th_R23, th_R24, th_R25, th_R26, th_R27, th_R28, th_I29, th_W29, th_I30, th_W30, th_I31, th_W31, th_R32, th_I33, th_W33, th_A0, th_S0, th_L0, th_A1, th_S1, th_L1, th_A2, th_S2, th_L2, th_A3, th_S3, th_L3, th_A4, th_S4, th_L4, th_A5, th_S5, th_L5, th_A6, th_S6, th_L6, th_A7, th_S7, th_L7, th_A8, th_S8, th_L8, th_A9, th_S9, th_L9, th_A10, th_S10, th_L10, th_A11, th_S11, th_L11, th_A12, th_S12, th_L12, th_A13, th_S13, th_L13, th_A14, th_S14, th_L14, th_A15, th_S15, th_L15, th_A16, th_S16, th_L16, th_A17, th_S17, th_L17, hb_some, hbx_inr, hbx_inl, Option.bind_some, iLT_in, iLE_in, iEQ_in, iIN_in, rtZ_in, rtC_in, rtB_in, if_pos]
  rw [e, x_noPlace (tPl (tGo_thr ht)) hq thr_7]
  simp only [hb_some, iEQ_bZ, thr_2, en]
  by_cases g1 : 0 ≤ q ∧ q < t.2 0 1
  · simp only [g1, and_self, decide_true, Bool.not_true, Bool.false_eq_true, if_false, if_true]
    rw [x_in hm (by omega) (by omega)]
    simp only [hb_some, iEQ_bZ]
    by_cases g2 : 1 ≤ m ∧ m ≤ 200
    · simp (discharger := omega) only [g2, and_self, decide_true, if_true, true_and, th_rcv, th_R0, th_R1, th_R2, th_R3, th_R4, th_R5, th_I6, th_W6, th_I7, th_W7, th_R8, th_R9, th_R10, th_R11, th_I12, th_W12, th_I13, th_W13, th_I14, th_W14, th_I15, th_W15, th_I16, th_W16, th_I17, th_W17, th_I18, th_W18, th_I19, th_W19, th_I20, th_W20, th_I21, th_W21, th_R22, th_R23, th_R24, th_R25, th_R26, th_R27, th_R28, th_I29, th_W29, th_I30, th_W30, th_I31, th_W31, th_R32, th_I33, th_W33, th_A0, th_S0, th_L0, th_A1, th_S1, th_L1, th_A2, th_S2, th_L2, th_A3, th_S3, th_L3, th_A4, th_S4, th_L4, th_A5, th_S5, th_L5, th_A6, th_S6, th_L6, th_A7, th_S7, th_L7, th_A8, th_S8, th_L8, th_A9, th_S9, th_L9, th_A10, th_S10, th_L10, th_A11, th_S11, th_L11, th_A12, th_S12, th_L12, th_A13, th_S13, th_L13, th_A14, th_S14, th_L14, th_A15, th_S15, th_L15, th_A16, th_S16, th_L16, th_A17, th_S17, th_L17, hb_some, hbx_inr, hbx_inl, Option.bind_some, iLT_in, iLE_in, iEQ_in, iIN_in, rtZ_in, rtC_in, rtB_in, if_pos, thr_2]
      by_cases g3 : q + m ≤ t.2 0 1
      · rw [if_pos g3, if_pos g3]
        unfold b_X9_backIn_42 f_X9_textFrom
        simp only [th_rcv, Option.bind_some, f0, hb_some, i00]
        rw [x_backOf (tGo_thr ht).1.1 (by omega) (by omega) (by omega)]
        refine ⟨_, ?_, tOb_thr t 0⟩
        simp only [hb_some, thr_2, Int.add_assoc]
        rfl
      · rw [if_neg g3, if_neg g3, bad]
        exact ⟨_, rfl, tOb_thr t 2⟩
    · simp only [g2, decide_false, Bool.false_eq_true, if_false, false_and]
      rw [bad]
      exact ⟨_, rfl, tOb_thr t 2⟩
  · simp only [g1, decide_false, Bool.not_false, if_true, if_false]
    unfold b_X9_backIn_49
    rw [thr_thr]
    exact ⟨_, rfl, tOb_thr t 1⟩
def kOcc (K : SK) (p q : Int) : Bool := decide (q + kl K p ≤ kn K) && ((fnd (fun c => decide (c < kf K ∧ occ (kr K p) (kl K p) c ≠ occ (kw K q) (kl K p) c)) 0 26).isNone && (fnd (fun z => decide (ofn (kr K p) (kl K p) (kf K) z 26 ≠ ofn (kw K q) (kl K p) (kf K) z 26)) 0 21).isNone)
def kCands (K : SK) (p : Int) : Int := cnt (fun q => kOcc K p q) 0 (kn K).toNat
theorem kOf_tx {t : TS} {q : Int} : tx t q = kw (kOf (t.2 0)) q := by
  unfold tx kw kOf kt
  dsimp only
  simp only [Int.add_assoc]
theorem kOf_cnd {t : TS} {p q : Int} : cnd t p q = kOcc (kOf (t.2 0)) p q := by
  unfold cnd kOcc
  rw [kOf_tx]
  rfl
theorem kOf_cands {t : TS} {p : Int} : cands t p = kCands (kOf (t.2 0)) p := by
  unfold cands kCands
  simp only [kOf_cnd]
  rfl
def oPat (K : SK) (p w : Int) : Int × Int := if 0 ≤ p ∧ p < kp K then (if 0 ≤ w ∧ w ≤ 7 then (if w = 0 then kl K p else if w = 1 then unl (kr K p) (kl K p) (kf K) false else if w = 2 then unl (kr K p) (kl K p) (kf K) true else if w = 3 then bd (kr K p) (kf K) (kl K p) (kl K p - 1).toNat
  else if w = 4 then kl K p - bd (kr K p) (kf K) (kl K p) (kl K p - 1).toNat else if w = 5 then cnt (fun k => decide (((km K).getD k.toNat (0, 0)).1 = p)) 0 (km K).length else if w = 6 then kHits K p else kCands K p, 0) else (0, 2)) else (0, 1)
theorem mko_ml {t : TS} {p : Int} (h : 0 ≤ t.2 0 3) : mko t p = cnt (fun k => decide (((km (kOf (t.2 0))).getD k.toNat (0, 0)).1 = p)) 0 (km (kOf (t.2 0))).length := by
  have hl : ((km (kOf (t.2 0))).length : Int) = t.2 0 3 := kOf_len h
  unfold mko
  rw [show (t.2 0 3).toNat = (km (kOf (t.2 0))).length by omega]
  refine cnt_congr fun k a c => ?_
  obtain ⟨n, rfl⟩ : ∃ n : Nat, k = n := ⟨k.toNat, by omega⟩
  have := ml_at (t := t) (i := n) (by omega)
  have e : (km (kOf (t.2 0))).getD (n : Int).toNat (0, 0) = (t.2 0 (456 + 2 * (n : Int) + 1), t.2 0 (456 + 2 * (n : Int))) := by
    rw [List.getD_eq_getElem?_getD]
    show ((ml t)[n]?).getD (0, 0) = _
    rw [this]; rfl
  rw [e]
theorem o_pattern {b : Nat} {t : TS} {h : HP} {p w : Int} (ht : tGo t) (hp : inR p) (hw : inR w) : ∃ t', f_X9_pattern b p w (TH b t h) = some ((oPat (kOf (t.2 0)) p w).1, TH b t' h) ∧ tOb t t' (oPat (kOf (t.2 0)) p w).2 := by
  have e : (upN t.1 7 0, t.2) = thr t 0 := rfl
  have hg := tGo_thr (k := 0) ht
  have hok := tPl hg
  have ep : kp (kOf (t.2 0)) = t.2 0 2 := rfl
  obtain ⟨f1, f0⟩ := x_failsP (b := b) (t := thr t 0) (h := h) (k := 2) (by omega) (by omega) thr_7
  unfold f_X9_pattern oPat
  simp (discharger := omega) only [th_rcv, th_R0, th_R1, th_R2, th_R3, th_R4, th_R5, th_I6, th_W6, th_I7, th_W7, th_R8, th_R9, th_R10, th_R11, th_I12, th_W12, th_I13, th_W13, th_I14, th_W14, th_I15, th_W15, th_I16, th_W16, th_I17, th_W17, th_I18, th_W18, th_I19, th_W19, th_I20, th_W20, th_I21, th_W21, th_R22, th_R23, th_R24, th_R25, th_R26, th_R27, th_R28, th_I29, th_W29, th_I30, th_W30, th_I31, th_W31, th_R32, th_I33, th_W33, th_A0, th_S0, th_L0, th_A1, th_S1, th_L1, th_A2, th_S2, th_L2, th_A3, th_S3, th_L3, th_A4, th_S4, th_L4, th_A5, th_S5, th_L5, th_A6, th_S6, th_L6, th_A7, th_S7, th_L7, th_A8, th_S8, th_L8, th_A9, th_S9, th_L9, th_A10, th_S10, th_L10, th_A11, th_S11, th_L11, th_A12, th_S12, th_L12, th_A13, th_S13, th_L13, th_A14, th_S14, th_L14, th_A15, th_S15, th_L15, th_A16, th_S16, th_L16, th_A17, th_S17, th_L17, hb_some, hbx_inr, hbx_inl, Option.bind_some, iLT_in, iLE_in, iEQ_in, iIN_in, rtZ_in, rtC_in, rtB_in, if_pos]
  rw [e, x_noPattern hok hp thr_7]
  simp only [hb_some, iEQ_bZ, thr_2, ep]
  by_cases g1 : 0 ≤ p ∧ p < t.2 0 2
  · have hln := hok.2.2.2.2.2 p g1.1 g1.2
    have h2 := ht.1.2.2.2.1
    rw [ep] at h2
    simp only [g1, and_self, decide_true, Bool.not_true, Bool.false_eq_true, if_false, if_true]
    rw [x_in hw (by omega) (by omega)]
    simp only [hb_some, iEQ_bZ]
    by_cases g2 : 0 ≤ w ∧ w ≤ 7
    · simp only [g2, and_self, decide_true, if_true]
      unfold b_X9_pattern_29
      have el : (thr t 0).2 0 (216 + 30 * p + 0) = ln (thr t 0) p := by rw [Int.add_zero]; rfl
      have er : kl (kOf (t.2 0)) p = ln (thr t 0) p := rfl
      simp only [th_rcv, Option.bind_some, f0, hb_some, i00]
      rw [x_of g1.1 (by omega) (by omega) (by omega), el]
      simp only [hb_some]
      rw [iIN_in hw, er]
      have hun : ∀ is, ∃ t', f_X9_unlike b (216 + 30 * p + 10) (ln (thr t 0) p) (bZ is) (TH b (thr t 0) h) = some (unl (kr (kOf (t.2 0)) p) (ln (thr t 0) p) (kf (kOf (t.2 0))) is, TH b t' h) ∧ tSc (thr t 0) t' := fun is =>
        x_unlike (b := b) (t := thr t 0) (h := h) (fr := 216 + 30 * p + 10) (m := ln (thr t 0) p) (is := is) hg.1.1 (by omega) (by omega) (by omega) (fun k a c => hg.1.lt.2 p k g1.1 g1.2 a c)
      have hbd := x_borderOf (b := b) (t := thr t 0) (h := h) (fr := 216 + 30 * p + 10) (m := ln (thr t 0) p) hg.1.1 (by omega) hln.1 (by omega)
      unfold f_X9_patternFrom
      by_cases w0 : w = 0
      · rw [if_pos w0, if_pos w0]; exact ⟨_, rfl, tOb_thr t 0⟩
      rw [if_neg w0, if_neg w0]
      by_cases w1 : w = 1
      · obtain ⟨u, p1, p2⟩ := hun false
        simp only [bZ, Bool.false_eq_true, if_false] at p1
        rw [if_pos w1, if_pos w1]
        simp only [hb_some, th_rcv, Option.bind_some, p1]
        exact ⟨u, rfl, tOb_sc 0 p2⟩
      rw [if_neg w1, if_neg w1]
      by_cases w2 : w = 2
      · obtain ⟨u, p1, p2⟩ := hun true
        simp only [bZ, if_true] at p1
        rw [if_pos w2, if_pos w2]
        simp only [hb_some, th_rcv, Option.bind_some, p1]
        exact ⟨u, rfl, tOb_sc 0 p2⟩
      rw [if_neg w2, if_neg w2]
      by_cases w3 : w = 3
      · rw [if_pos w3, if_pos w3]
        simp only [hb_some, th_rcv, Option.bind_some, hbd]
        exact ⟨_, rfl, tOb_thr t 0⟩
      rw [if_neg w3, if_neg w3]
      by_cases w4 : w = 4
      · rw [if_pos w4, if_pos w4]
        simp only [hb_some, th_rcv, Option.bind_some, hbd]
        exact ⟨_, rfl, tOb_thr t 0⟩
      rw [if_neg w4, if_neg w4]
      by_cases w5 : w = 5
      · rw [if_pos w5, if_pos w5]
        simp only [hb_some, th_rcv, Option.bind_some, x_marksOf hok hp]
        exact ⟨_, by rw [show mko (thr t 0) p = mko t p from rfl, mko_ml ht.2], tOb_thr t 0⟩
      rw [if_neg w5, if_neg w5]
      by_cases w6 : w = 6
      · rw [if_pos w6, if_pos w6]
        simp only [hb_some, th_rcv, Option.bind_some, x_hits hok g1.1 g1.2]
        exact ⟨_, by rw [kOf_hits]; rfl, tOb_thr t 0⟩
      rw [if_neg w6, if_neg w6]
      obtain ⟨u, p1, p2⟩ := x_candidates (b := b) (h := h) hok hg.1.lt g1.1 g1.2
      simp only [hb_some, th_rcv, Option.bind_some, p1]
      exact ⟨u, by rw [kOf_cands]; rfl, tOb_sc 0 p2⟩
    · simp only [g2, decide_false, Bool.false_eq_true, if_false]
      unfold b_X9_pattern_29 b_X9_pattern_36
      simp only [th_rcv, Option.bind_some, f1, hb_some, i10]
      rw [thr_thr]
      exact ⟨_, rfl, tOb_thr t 2⟩
  · simp only [g1, decide_false, Bool.not_false, if_true, if_false]
    unfold b_X9_pattern_36
    rw [thr_thr]
    exact ⟨_, rfl, tOb_thr t 1⟩
def oPatAt (K : SK) (p k : Int) : Int × Int := if 0 ≤ p ∧ p < kp K then (if 0 ≤ k ∧ k < kl K p then kr K p k else -1, 0) else (0, 1)
theorem o_patternAt {b : Nat} {t : TS} {h : HP} {p k : Int} (ht : tGo t) (hp : inR p) (hk : inR k) : ∃ t', f_X9_patternAt b p k (TH b t h) = some ((oPatAt (kOf (t.2 0)) p k).1, TH b t' h) ∧ tOb t t' (oPatAt (kOf (t.2 0)) p k).2 := by
  have e : (upN t.1 7 0, t.2) = thr t 0 := rfl
  have hg := tGo_thr (k := 0) ht
  have hok := tPl hg
  have ep : kp (kOf (t.2 0)) = t.2 0 2 := rfl
  unfold f_X9_patternAt oPatAt b_X9_patternAt_44
  simp (discharger := omega) only [th_rcv, th_R0, th_R1, th_R2, th_R3, th_R4, th_R5, th_I6, th_W6, th_I7, th_W7, th_R8, th_R9, th_R10, th_R11, th_I12, th_W12, th_I13, th_W13, th_I14, th_W14, th_I15, th_W15, th_I16, th_W16, th_I17, th_W17, th_I18, th_W18, th_I19, th_W19, th_I20, th_W20, th_I21, th_W21, th_R22, th_R23, th_R24, th_R25, th_R26, th_R27, th_R28, th_I29, th_W29, th_I30, th_W30, th_I31, th_W31, th_R32, th_I33, th_W33, th_A0, th_S0, th_L0, th_A1, th_S1, th_L1, th_A2, th_S2, th_L2, th_A3, th_S3, th_L3, th_A4, th_S4, th_L4, th_A5, th_S5, th_L5, th_A6, th_S6, th_L6, th_A7, th_S7, th_L7, th_A8, th_S8, th_L8, th_A9, th_S9, th_L9, th_A10, th_S10, th_L10, th_A11, th_S11, th_L11, th_A12, th_S12, th_L12, th_A13, th_S13, th_L13, th_A14, th_S14, th_L14, th_A15, th_S15, th_L15, th_A16, th_S16, th_L16, th_A17, th_S17, th_L17, hb_some, hbx_inr, hbx_inl, Option.bind_some, iLT_in, iLE_in, iEQ_in, iIN_in, rtZ_in, rtC_in, rtB_in, if_pos]
  rw [e, x_noPattern hok hp thr_7]
  simp only [hb_some, iEQ_bZ, thr_2, ep]
  by_cases g1 : 0 ≤ p ∧ p < t.2 0 2
  · have hln := hok.2.2.2.2.2 p g1.1 g1.2
    have h2 := ht.1.2.2.2.1
    rw [ep] at h2
    have el : t.2 0 (216 + 30 * p + 0) = ln (thr t 0) p := by rw [Int.add_zero]; rfl
    have er : kl (kOf (t.2 0)) p = ln (thr t 0) p := rfl
    simp (discharger := omega) only [g1, and_self, decide_true, Bool.not_true, Bool.false_eq_true, if_false, if_true, th_rcv, th_R0, th_R1, th_R2, th_R3, th_R4, th_R5, th_I6, th_W6, th_I7, th_W7, th_R8, th_R9, th_R10, th_R11, th_I12, th_W12, th_I13, th_W13, th_I14, th_W14, th_I15, th_W15, th_I16, th_W16, th_I17, th_W17, th_I18, th_W18, th_I19, th_W19, th_I20, th_W20, th_I21, th_W21, th_R22, th_R23, th_R24, th_R25, th_R26, th_R27, th_R28, th_I29, th_W29, th_I30, th_W30, th_I31, th_W31, th_R32, th_I33, th_W33, th_A0, th_S0, th_L0, th_A1, th_S1, th_L1, th_A2, th_S2, th_L2, th_A3, th_S3, th_L3, th_A4, th_S4, th_L4, th_A5, th_S5, th_L5, th_A6, th_S6, th_L6, th_A7, th_S7, th_L7, th_A8, th_S8, th_L8, th_A9, th_S9, th_L9, th_A10, th_S10, th_L10, th_A11, th_S11, th_L11, th_A12, th_S12, th_L12, th_A13, th_S13, th_L13, th_A14, th_S14, th_L14, th_A15, th_S15, th_L15, th_A16, th_S16, th_L16, th_A17, th_S17, th_L17, hb_some, hbx_inr, hbx_inl, Option.bind_some, iLT_in, iLE_in, iEQ_in, iIN_in, rtZ_in, rtC_in, rtB_in, if_pos, x_of, thr_2, el]
    rw [x_in hk (by omega) (by omega), er]
    simp only [hb_some, iEQ_bZ]
    have e2 : (0 ≤ k ∧ k ≤ ln (thr t 0) p - 1) ↔ (0 ≤ k ∧ k < ln (thr t 0) p) := by omega
    simp only [e2]
    by_cases g2 : 0 ≤ k ∧ k < ln (thr t 0) p
    · simp (discharger := omega) only [g2, and_self, decide_true, if_true, th_rcv, th_R0, th_R1, th_R2, th_R3, th_R4, th_R5, th_I6, th_W6, th_I7, th_W7, th_R8, th_R9, th_R10, th_R11, th_I12, th_W12, th_I13, th_W13, th_I14, th_W14, th_I15, th_W15, th_I16, th_W16, th_I17, th_W17, th_I18, th_W18, th_I19, th_W19, th_I20, th_W20, th_I21, th_W21, th_R22, th_R23, th_R24, th_R25, th_R26, th_R27, th_R28, th_I29, th_W29, th_I30, th_W30, th_I31, th_W31, th_R32, th_I33, th_W33, th_A0, th_S0, th_L0, th_A1, th_S1, th_L1, th_A2, th_S2, th_L2, th_A3, th_S3, th_L3, th_A4, th_S4, th_L4, th_A5, th_S5, th_L5, th_A6, th_S6, th_L6, th_A7, th_S7, th_L7, th_A8, th_S8, th_L8, th_A9, th_S9, th_L9, th_A10, th_S10, th_L10, th_A11, th_S11, th_L11, th_A12, th_S12, th_L12, th_A13, th_S13, th_L13, th_A14, th_S14, th_L14, th_A15, th_S15, th_L15, th_A16, th_S16, th_L16, th_A17, th_S17, th_L17, hb_some, hbx_inr, hbx_inl, Option.bind_some, iLT_in, iLE_in, iEQ_in, iIN_in, rtZ_in, rtC_in, rtB_in, if_pos, x_of, thr_2]
      refine ⟨_, ?_, tOb_thr t 0⟩
      rw [← Int.add_assoc]; rfl
    · simp only [g2, decide_false, Bool.false_eq_true, if_false]
      exact ⟨_, rfl, tOb_thr t 0⟩
  · simp only [g1, decide_false, Bool.not_false, if_true, if_false]
    rw [thr_thr]
    exact ⟨_, rfl, tOb_thr t 1⟩
