/-! STAGE 2l: the reference: letters taken out, firm letters, marks. -/
set_option maxRecDepth 100000
theorem y_eraseNow {b : Nat} {t : TS} {h : HP} {q : Int} (ht : tGo t) (hq : 0 ≤ q) (hq2 : q < 1000) : tCh b t h (f_X9_eraseNow b q (TH b t h)) (kEra (kOf (t.2 0)) q) := by
  have hk := ht.1.2
  have h1 : 1 ≤ t.2 0 1 ∧ t.2 0 1 ≤ 200 := hk.1
  have h2 : 0 ≤ t.2 0 2 ∧ t.2 0 2 ≤ 8 := hk.2.2.1
  have hok := tPl ht
  unfold tCh kEra
  have en : kn (kOf (t.2 0)) = t.2 0 1 := rfl
  rw [en]
  unfold f_X9_eraseNow
  simp (discharger := omega) only [th_rcv, th_R0, th_R1, th_R2, th_R3, th_R4, th_R5, th_I6, th_W6, th_I7, th_W7, th_R8, th_R9, th_R10, th_R11, th_I12, th_W12, th_I13, th_W13, th_I14, th_W14, th_I15, th_W15, th_I16, th_W16, th_I17, th_W17, th_I18, th_W18, th_I19, th_W19, th_I20, th_W20, th_I21, th_W21, th_R22, th_R23, th_R24, th_R25, th_R26, th_R27, th_R28, th_I29, th_W29, th_I30, th_W30, th_I31, th_W31, th_R32, th_I33, th_W33, th_A0, th_S0, th_L0, th_A1, th_S1, th_L1, th_A2, th_S2, th_L2, th_A3, th_S3, th_L3, th_A4, th_S4, th_L4, th_A5, th_S5, th_L5, th_A6, th_S6, th_L6, th_A7, th_S7, th_L7, th_A8, th_S8, th_L8, th_A9, th_S9, th_L9, th_A10, th_S10, th_L10, th_A11, th_S11, th_L11, th_A12, th_S12, th_L12, th_A13, th_S13, th_L13, th_A14, th_S14, th_L14, th_A15, th_S15, th_L15, th_A16, th_S16, th_L16, th_A17, th_S17, th_L17, hb_some, hbx_inr, hbx_inl, Option.bind_some, iLT_in, iLE_in, iEQ_in, iIN_in, rtZ_in, rtC_in, rtB_in, if_pos]
  by_cases g0 : t.2 0 1 = 1
  · rw [if_pos g0, if_pos g0]
    exact ⟨t, rfl, tKp.refl t, ht, kEq.refl _, nEq.refl _⟩
  rw [if_neg g0, if_neg g0]
  by_cases g : q < t.2 0 1
  · rw [if_pos g, if_neg (by omega)]
    unfold b_X9_eraseNow_38
    refine fx_FU (bot := fun (_ : Option Nat) (_ _ : Int) (_ : HP) => (none : Option (Int × HP))) (body := c_X9_eraseNow_38)
      (fun F (s : Int × TS) => F (some b) q s.1 (TH b s.2 h)) (fun s => (q ≤ s.1 ∧ s.1 ≤ t.2 0 1 - 1) ∧ tKp t s.2 ∧
        ∀ i, s.2.2 0 i = if i = 1 then t.2 0 1 - 1 else if 16 + q ≤ i ∧ i < 16 + s.1 then t.2 0 (i + 1) else t.2 0 i) (fun s => (t.2 0 1 - s.1).toNat)
      (fun s v => ∃ t', v = some (t.2 0 1 - 1, TH b t' h) ∧ tKp t t' ∧ tGo t' ∧ kEq (kCl (kEr1 (kOf (t.2 0)) q)) (kOf (t'.2 0)) ∧ nEq (t.2 0) (t'.2 0)) ?_
      (q, (t.1, upN t.2 0 (upI (t.2 0) 1 (t.2 0 1 - 1)))) ⟨⟨by dsimp only; omega, by dsimp only; omega⟩, ⟨rfl, fun j a _ _ _ => by dsimp only; rw [upN_ne a]⟩, fun i => by
        dsimp only
        rw [upN_0]
        by_cases e : i = 1
        · rw [e, upI_eq, if_pos rfl]
        · rw [upI_ne e, if_neg e, if_neg (by omega)]⟩ (by dsimp only; omega)
    rintro rec ⟨k, u⟩ ⟨⟨h3, h4⟩, h5, h6⟩ ih
    dsimp only at h3 h4 h5 h6 ih ⊢
    have e1 : u.2 0 1 = t.2 0 1 - 1 := by rw [h6, if_pos rfl]
    unfold c_X9_eraseNow_38
    simp (discharger := omega) only [th_rcv, th_R0, th_R1, th_R2, th_R3, th_R4, th_R5, th_I6, th_W6, th_I7, th_W7, th_R8, th_R9, th_R10, th_R11, th_I12, th_W12, th_I13, th_W13, th_I14, th_W14, th_I15, th_W15, th_I16, th_W16, th_I17, th_W17, th_I18, th_W18, th_I19, th_W19, th_I20, th_W20, th_I21, th_W21, th_R22, th_R23, th_R24, th_R25, th_R26, th_R27, th_R28, th_I29, th_W29, th_I30, th_W30, th_I31, th_W31, th_R32, th_I33, th_W33, th_A0, th_S0, th_L0, th_A1, th_S1, th_L1, th_A2, th_S2, th_L2, th_A3, th_S3, th_L3, th_A4, th_S4, th_L4, th_A5, th_S5, th_L5, th_A6, th_S6, th_L6, th_A7, th_S7, th_L7, th_A8, th_S8, th_L8, th_A9, th_S9, th_L9, th_A10, th_S10, th_L10, th_A11, th_S11, th_L11, th_A12, th_S12, th_L12, th_A13, th_S13, th_L13, th_A14, th_S14, th_L14, th_A15, th_S15, th_L15, th_A16, th_S16, th_L16, th_A17, th_S17, th_L17, hb_some, hbx_inr, hbx_inl, Option.bind_some, iLT_in, iLE_in, iEQ_in, iIN_in, rtZ_in, rtC_in, rtB_in, if_pos, e1]
    by_cases g1 : t.2 0 1 - 1 ≤ k
    · rw [if_pos g1]
      rw [x_counts (by omega) (by omega)]
      simp (discharger := omega) only [th_rcv, th_R0, th_R1, th_R2, th_R3, th_R4, th_R5, th_I6, th_W6, th_I7, th_W7, th_R8, th_R9, th_R10, th_R11, th_I12, th_W12, th_I13, th_W13, th_I14, th_W14, th_I15, th_W15, th_I16, th_W16, th_I17, th_W17, th_I18, th_W18, th_I19, th_W19, th_I20, th_W20, th_I21, th_W21, th_R22, th_R23, th_R24, th_R25, th_R26, th_R27, th_R28, th_I29, th_W29, th_I30, th_W30, th_I31, th_W31, th_R32, th_I33, th_W33, th_A0, th_S0, th_L0, th_A1, th_S1, th_L1, th_A2, th_S2, th_L2, th_A3, th_S3, th_L3, th_A4, th_S4, th_L4, th_A5, th_S5, th_L5, th_A6, th_S6, th_L6, th_A7, th_S7, th_L7, th_A8, th_S8, th_L8, th_A9, th_S9, th_L9, th_A10, th_S10, th_L10, th_A11, th_S11, th_L11, th_A12, th_S12, th_L12, th_A13, th_S13, th_L13, th_A14, th_S14, th_L14, th_A15, th_S15, th_L15, th_A16, th_S16, th_L16, th_A17, th_S17, th_L17, hb_some, hbx_inr, hbx_inl, Option.bind_some, iLT_in, iLE_in, iEQ_in, iIN_in, rtZ_in, rtC_in, rtB_in, if_pos]
      have ex : ∃ v : TS, v = (u.1, upN u.2 0 (upI (u.2 0) (4 + 2) (u.2 0 (4 + 2) + 1))) := ⟨_, rfl⟩
      obtain ⟨v, hv⟩ := ex
      have v0 : ∀ i, v.2 0 i = if i = 6 then t.2 0 6 + 1 else if i = 1 then t.2 0 1 - 1 else if 16 + q ≤ i ∧ i < 16 + (t.2 0 1 - 1) then t.2 0 (i + 1) else t.2 0 i := by
        intro i
        rw [hv]
        dsimp only
        rw [upN_0]
        by_cases e5 : i = 6
        · have e5' : i = 4 + 2 := e5
          rw [if_pos e5, e5', upI_eq, h6, if_neg (by omega), if_neg (by omega)]; rfl
        · rw [if_neg e5, upI_ne (by omega), h6, show k = t.2 0 1 - 1 by omega]
      have vk : tKp t v := by
        rw [hv]
        exact ⟨h5.1, fun j a b c d => by dsimp only; rw [upN_ne a]; exact h5.2 j a b c d⟩
      rw [← hv]
      have vin : tIn v := by
        intro i hi
        rw [v0]
        by_cases e5 : i = 6
        · omega
        · rw [if_neg e5]
          by_cases e2 : i = 1
          · rw [if_pos e2]; omega
          · rw [if_neg e2]
            by_cases e4 : 16 + q ≤ i ∧ i < 16 + (t.2 0 1 - 1)
            · rw [if_pos e4]; exact ht.1.1 _ (by omega)
            · rw [if_neg e4]; exact ht.1.1 _ hi
      have far : ∀ i, 216 ≤ i → v.2 0 i = t.2 0 i := fun i hi => by rw [v0, if_neg (by omega), if_neg (by omega), if_neg (by omega)]
      have v00 : v.2 0 0 = t.2 0 0 := by rw [v0, if_neg (by omega), if_neg (by omega), if_neg (by omega)]
      have v01 : v.2 0 1 = t.2 0 1 - 1 := by rw [v0, if_neg (by omega), if_pos rfl]
      have v02 : v.2 0 2 = t.2 0 2 := by rw [v0, if_neg (by omega), if_neg (by omega), if_neg (by omega)]
      have v03 : v.2 0 3 = t.2 0 3 := by rw [v0, if_neg (by omega), if_neg (by omega), if_neg (by omega)]
      have vok : tOK v := by
        obtain ⟨k1, k2, k3, k4, k5, k6⟩ := hok
        refine ⟨vin, by rw [v00]; exact k2, by rw [v01]; omega, by rw [v02]; exact k4, by rw [v03]; exact k5, fun p a b => ?_⟩
        rw [v02] at b
        unfold ln
        rw [far _ (by omega)]
        exact k6 p a b
      obtain ⟨w, s1, s2, s3, s4⟩ := x_shifts (b := b) (t := v) (h := h) (fr := q + 1) (by' := -1) vok (by omega)
      rw [s1]
      simp (discharger := omega) only [th_rcv, th_R0, th_R1, th_R2, th_R3, th_R4, th_R5, th_I6, th_W6, th_I7, th_W7, th_R8, th_R9, th_R10, th_R11, th_I12, th_W12, th_I13, th_W13, th_I14, th_W14, th_I15, th_W15, th_I16, th_W16, th_I17, th_W17, th_I18, th_W18, th_I19, th_W19, th_I20, th_W20, th_I21, th_W21, th_R22, th_R23, th_R24, th_R25, th_R26, th_R27, th_R28, th_I29, th_W29, th_I30, th_W30, th_I31, th_W31, th_R32, th_I33, th_W33, th_A0, th_S0, th_L0, th_A1, th_S1, th_L1, th_A2, th_S2, th_L2, th_A3, th_S3, th_L3, th_A4, th_S4, th_L4, th_A5, th_S5, th_L5, th_A6, th_S6, th_L6, th_A7, th_S7, th_L7, th_A8, th_S8, th_L8, th_A9, th_S9, th_L9, th_A10, th_S10, th_L10, th_A11, th_S11, th_L11, th_A12, th_S12, th_L12, th_A13, th_S13, th_L13, th_A14, th_S14, th_L14, th_A15, th_S15, th_L15, th_A16, th_S16, th_L16, th_A17, th_S17, th_L17, hb_some, hbx_inr, hbx_inl, Option.bind_some, iLT_in, iLE_in, iEQ_in, iIN_in, rtZ_in, rtC_in, rtB_in, if_pos]
      have wn : ∀ i, i < 456 → w.2 0 i = v.2 0 i := fun i hi => by rw [s4, if_neg (by omega)]
      have hml : kMl (w.2 0) = kSh (q + 1) (-1) (kMl (t.2 0)) := by
        rw [kMl_sh (r := v.2 0) (by rw [v03]; exact ht.2) s4, kMl_eq (w := t.2 0) (w' := v.2 0) v03 (fun i hi => far i (by omega))]
      obtain ⟨t', p1, p2, p3, p4, p5, p6⟩ := y_wash (b := b) (t := t) (h := h) (r1 := w.2 0) (K1 := kEr1 (kOf (t.2 0)) q)
        (fun i hi => by
          by_cases e : 456 ≤ i ∧ i < 456 + 2 * v.2 0 3 ∧ i % 2 = 0 ∧ q + 1 ≤ v.2 0 i
          · rw [s4, if_pos e, far i (by omega)]
            have := ht.1.1 i (by omega)
            have e2 := e.2.2.2
            rw [far i (by omega)] at e2
            omega
          · rw [s4, if_neg e]; exact vin i hi)
        (by rw [wn 3 (by omega), v03]; exact ht.2) (kOK_er1 hk hq (by rw [en]; omega) (by rw [en]; omega))
        (by
          refine ⟨by show w.2 0 1 = t.2 0 1 - 1; rw [wn 1 (by omega), v01], by show w.2 0 0 = t.2 0 0; rw [wn 0 (by omega), v00], by show w.2 0 2 = t.2 0 2; rw [wn 2 (by omega), v02], hml, fun j a b => ?_, fun p a b => ?_, fun p j a b c d => ?_, fun a b c => ?_⟩
          · have b : j < t.2 0 1 - 1 := b
            show w.2 0 (16 + j) = if j < q then t.2 0 (16 + j) else t.2 0 (16 + (j + 1))
            rw [wn _ (by omega), v0, if_neg (by omega), if_neg (by omega)]
            by_cases e1 : j < q
            · rw [if_pos e1, if_neg (by omega)]
            · rw [if_neg e1, if_pos (by omega), show 16 + j + 1 = 16 + (j + 1) by omega]
          · have b : p < t.2 0 2 := b
            show w.2 0 (216 + 30 * p) = t.2 0 (216 + 30 * p)
            rw [wn _ (by omega), far _ (by omega)]
          · have b : p < t.2 0 2 := b
            have d2 : ln t p ≤ 20 := (hok.2.2.2.2.2 p a b).2
            have d : j < ln t p := d
            show w.2 0 (216 + 30 * p + 10 + j) = t.2 0 (216 + 30 * p + 10 + j)
            rw [wn _ (by omega), far _ (by omega)]
          · show w.2 0 (4 + a) = upI (fun a => t.2 0 (4 + a)) 2 (t.2 0 6 + 1) a
            rw [wn _ (by omega), v0]
            by_cases e : a = 2
            · rw [e, upI_eq, if_pos (by omega)]
            · rw [upI_ne e, if_neg (by omega), if_neg (by omega), if_neg (by omega)])
        (fun p j a b c d => by rw [wn _ (by omega), far _ (by omega)]) (u := w) rfl (vk.trans ⟨s2, fun j a _ _ _ => s3 j a⟩)
      rw [p1]
      simp (discharger := omega) only [th_rcv, th_R0, th_R1, th_R2, th_R3, th_R4, th_R5, th_I6, th_W6, th_I7, th_W7, th_R8, th_R9, th_R10, th_R11, th_I12, th_W12, th_I13, th_W13, th_I14, th_W14, th_I15, th_W15, th_I16, th_W16, th_I17, th_W17, th_I18, th_W18, th_I19, th_W19, th_I20, th_W20, th_I21, th_W21, th_R22, th_R23, th_R24, th_R25, th_R26, th_R27, th_R28, th_I29, th_W29, th_I30, th_W30, th_I31, th_W31, th_R32, th_I33, th_W33, th_A0, th_S0, th_L0, th_A1, th_S1, th_L1, th_A2, th_S2, th_L2, th_A3, th_S3, th_L3, th_A4, th_S4, th_L4, th_A5, th_S5, th_L5, th_A6, th_S6, th_L6, th_A7, th_S7, th_L7, th_A8, th_S8, th_L8, th_A9, th_S9, th_L9, th_A10, th_S10, th_L10, th_A11, th_S11, th_L11, th_A12, th_S12, th_L12, th_A13, th_S13, th_L13, th_A14, th_S14, th_L14, th_A15, th_S15, th_L15, th_A16, th_S16, th_L16, th_A17, th_S17, th_L17, hb_some, hbx_inr, hbx_inl, Option.bind_some, iLT_in, iLE_in, iEQ_in, iIN_in, rtZ_in, rtC_in, rtB_in, if_pos]
      rw [p6, wn 1 (by omega), v01]
      exact ⟨t', rfl, p2, p3, p4, p5⟩
    · have ek : u.2 0 (16 + k + 1) = t.2 0 (16 + k + 1) := by rw [h6, if_neg (by omega), if_neg (by omega)]
      rw [if_neg g1, ek]
      refine ih (k + 1, _) ⟨⟨by dsimp only; omega, by dsimp only; omega⟩, ⟨h5.1, fun j a b c d => by dsimp only; rw [upN_ne a]; exact h5.2 j a b c d⟩, fun i => ?_⟩ (by dsimp only; omega)
      dsimp only
      rw [upN_0]
      by_cases e : i = 16 + k
      · rw [e, upI_eq, if_neg (by omega), if_pos (by omega)]
      · rw [upI_ne e, h6]
        by_cases e1 : i = 1
        · rw [if_pos e1, if_pos e1]
        · rw [if_neg e1, if_neg e1]
          by_cases e2 : 16 + q ≤ i ∧ i < 16 + k
          · rw [if_pos e2, if_pos (by omega)]
          · rw [if_neg e2, if_neg (by omega)]
  · rw [if_neg g, if_pos (by omega)]
    exact ⟨t, rfl, tKp.refl t, ht, kEq.refl _, nEq.refl _⟩
def kFr1 (K : SK) (f : Int) : SK := (kn K, kt K, f, kp K, kl K, kr K, km K, ka K)
def kFrm (K : SK) (f : Int) : Int × SK := (kf K, kCl (kFr1 K f))
theorem kOK_fr1 {K : SK} (hk : kOK K) {f : Int} (h : 0 ≤ f) (h2 : f ≤ 26) : kOK (kFr1 K f) := by
  obtain ⟨g1, g2, g3, g4, g5, g6, g7, g8⟩ := hk
  exact ⟨g1, ⟨h, h2⟩, g3, g4, g5, g6, g7, g8⟩
theorem kFr1_eq {K K' : SK} (h : kEq K K') {f : Int} : kEq (kFr1 K f) (kFr1 K' f) := by
  obtain ⟨h1, h2, h3, h4, h5, h6, h7, h8⟩ := h
  exact ⟨h1, rfl, h3, h4, h5, h6, h7, h8⟩
theorem kFrm_eq {K K' : SK} (h : kEq K K') (hk : kOK K) {f : Int} (hf : 0 ≤ f) (hf2 : f ≤ 26) : (kFrm K' f).1 = (kFrm K f).1 ∧ kEq (kFrm K f).2 (kFrm K' f).2 := ⟨h.2.1, kCl_eq (kFr1_eq h) (kOK_fr1 hk hf hf2)⟩
/-- an index that isn't of use, or is set -/
theorem y_firmNow {b : Nat} {t : TS} {h : HP} {f : Int} (ht : tGo t) (hf : 0 ≤ f) (hf2 : f ≤ 26) : tCh b t h (f_X9_firmNow b f (TH b t h)) (kFrm (kOf (t.2 0)) f) := by
  have hk := ht.1.2
  have h1 : 1 ≤ t.2 0 1 ∧ t.2 0 1 ≤ 200 := hk.1
  have h2 : 0 ≤ t.2 0 2 ∧ t.2 0 2 ≤ 8 := hk.2.2.1
  unfold tCh kFrm
  unfold f_X9_firmNow
  simp (discharger := omega) only [th_rcv, th_R0, th_R1, th_R2, th_R3, th_R4, th_R5, th_I6, th_W6, th_I7, th_W7, th_R8, th_R9, th_R10, th_R11, th_I12, th_W12, th_I13, th_W13, th_I14, th_W14, th_I15, th_W15, th_I16, th_W16, th_I17, th_W17, th_I18, th_W18, th_I19, th_W19, th_I20, th_W20, th_I21, th_W21, th_R22, th_R23, th_R24, th_R25, th_R26, th_R27, th_R28, th_I29, th_W29, th_I30, th_W30, th_I31, th_W31, th_R32, th_I33, th_W33, th_A0, th_S0, th_L0, th_A1, th_S1, th_L1, th_A2, th_S2, th_L2, th_A3, th_S3, th_L3, th_A4, th_S4, th_L4, th_A5, th_S5, th_L5, th_A6, th_S6, th_L6, th_A7, th_S7, th_L7, th_A8, th_S8, th_L8, th_A9, th_S9, th_L9, th_A10, th_S10, th_L10, th_A11, th_S11, th_L11, th_A12, th_S12, th_L12, th_A13, th_S13, th_L13, th_A14, th_S14, th_L14, th_A15, th_S15, th_L15, th_A16, th_S16, th_L16, th_A17, th_S17, th_L17, hb_some, hbx_inr, hbx_inl, Option.bind_some, iLT_in, iLE_in, iEQ_in, iIN_in, rtZ_in, rtC_in, rtB_in, if_pos]
  have far : ∀ i, i ≠ 0 → upI (t.2 0) 0 f i = t.2 0 i := fun i hi => upI_ne hi
  obtain ⟨t', p1, p2, p3, p4, p5, p6⟩ := y_wash (b := b) (t := t) (h := h) (r1 := upI (t.2 0) 0 f) (K1 := kFr1 (kOf (t.2 0)) f)
    (fun i hi => by
      by_cases e : i = 0
      · rw [e, upI_eq]; omega
      · rw [far i e]; exact ht.1.1 i hi)
    (by rw [far 3 (by omega)]; exact ht.2) (kOK_fr1 hk hf hf2)
    (by
      refine ⟨far 1 (by omega), by show upI (t.2 0) 0 f 0 = f; rw [upI_eq], far 2 (by omega), kMl_eq (far 3 (by omega)) (fun i hi => far i (by omega)), fun j a b => far _ (by omega), fun p a b => far _ (by omega), fun p j a b c d => far _ (by omega), fun a b c => far _ (by omega)⟩)
    (fun p j a b c d => far _ (by omega)) (u := (t.1, upN t.2 0 (upI (t.2 0) 0 f))) (by dsimp only; rw [upN_0]) ⟨rfl, fun j a _ _ _ => by dsimp only; rw [upN_ne a]⟩
  rw [p1]
  exact ⟨t', rfl, p2, p3, p4, p5⟩
