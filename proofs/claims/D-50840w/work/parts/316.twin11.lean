/-! STAGE 2n: the reference: letters swapped, patterns taken. -/
set_option maxRecDepth 100000
def swp (x y c : Int) : Int := if c = x then y else if c = y then x else c
def kSwn (K : SK) (q m x y : Int) : Int := cnt (fun k => decide (kt K k = x ∨ kt K k = y)) q m.toNat
def kSw1 (K : SK) (q m x y : Int) : SK := (kn K, fun k => if q ≤ k ∧ k < q + m then swp x y (kt K k) else kt K k, kf K, kp K, kl K, kr K, km K, upI (ka K) 6 (ka K 6 + kSwn K q m x y))
def kSwp (K : SK) (q m x y : Int) : Int × SK := if kn K ≤ q ∨ kn K < q + m then (-4, K) else (kSwn K q m x y, kCl (kSw1 K q m x y))
theorem kOK_sw1 {K : SK} (hk : kOK K) {q m x y : Int} (hx : 0 ≤ x ∧ x < 26) (hy : 0 ≤ y ∧ y < 26) : kOK (kSw1 K q m x y) := by
  obtain ⟨g1, g2, g3, g4, g5, g6, g7, g8⟩ := hk
  refine ⟨g1, g2, g3, g4, fun k a b => ?_, g6, g7, g8⟩
  have := g5 k a b
  show 0 ≤ (if q ≤ k ∧ k < q + m then swp x y (kt K k) else kt K k) ∧ (if q ≤ k ∧ k < q + m then swp x y (kt K k) else kt K k) < 26
  by_cases e : q ≤ k ∧ k < q + m
  · rw [if_pos e]
    unfold swp
    by_cases e1 : kt K k = x
    · rw [if_pos e1]; exact hy
    · rw [if_neg e1]
      by_cases e2 : kt K k = y
      · rw [if_pos e2]; exact hx
      · rw [if_neg e2]; exact this
  · rw [if_neg e]; exact this
theorem kSwp_eq {K K' : SK} (h : kEq K K') (hk : kOK K) {q m x y : Int} (hq : 0 ≤ q) (hm : 0 ≤ m) (hx : 0 ≤ x ∧ x < 26) (hy : 0 ≤ y ∧ y < 26) : (kSwp K' q m x y).1 = (kSwp K q m x y).1 ∧ kEq (kSwp K q m x y).2 (kSwp K' q m x y).2 := by
  have hh := h
  obtain ⟨h1, h2, h3, h4, h5, h6, h7, h8⟩ := h
  unfold kSwp
  rw [h1]
  by_cases g : kn K ≤ q ∨ kn K < q + m
  · rw [if_pos g, if_pos g]; exact ⟨rfl, hh⟩
  · rw [if_neg g, if_neg g]
    have en : kSwn K' q m x y = kSwn K q m x y := by
      unfold kSwn
      exact cnt_congr fun k a b => by rw [h5 k (by omega) (by omega)]
    refine ⟨en, kCl_eq ⟨h1, h2, h3, h4, fun k a b => ?_, h6, h7, fun a b d => ?_⟩ (kOK_sw1 hk hx hy)⟩
    · have b : k < kn K := b
      show (if q ≤ k ∧ k < q + m then swp x y (kt K' k) else kt K' k) = if q ≤ k ∧ k < q + m then swp x y (kt K k) else kt K k
      rw [h5 k a b]
    · show upI (ka K') 6 _ a = upI (ka K) 6 _ a
      by_cases e : a = 6
      · rw [e, upI_eq, upI_eq, h8 6 (by omega) (by omega), en]
      · rw [upI_ne e, upI_ne e]; exact h8 a b d
theorem y_swapNow {b : Nat} {t : TS} {h : HP} {q m x y : Int} (ht : tGo t) (hq : 0 ≤ q) (hq2 : q < 1000) (hm : 1 ≤ m) (hm2 : m ≤ 200) (hx : 0 ≤ x ∧ x < 26) (hy : 0 ≤ y ∧ y < 26) : tCh b t h (f_X9_swapNow b q m x y (TH b t h)) (kSwp (kOf (t.2 0)) q m x y) := by
  have hk := ht.1.2
  have h1 : 1 ≤ t.2 0 1 ∧ t.2 0 1 ≤ 200 := hk.1
  have h2 : 0 ≤ t.2 0 2 ∧ t.2 0 2 ≤ 8 := hk.2.2.1
  have hok := tPl ht
  unfold tCh kSwp
  have en : kn (kOf (t.2 0)) = t.2 0 1 := rfl
  rw [en]
  unfold f_X9_swapNow b_X9_swapNow_22
  simp (discharger := omega) only [th_rcv, th_R0, th_R1, th_R2, th_R3, th_R4, th_R5, th_I6, th_W6, th_I7, th_W7, th_R8, th_R9, th_R10, th_R11, th_I12, th_W12, th_I13, th_W13, th_I14, th_W14, th_I15, th_W15, th_I16, th_W16, th_I17, th_W17, th_I18, th_W18, th_I19, th_W19, th_I20, th_W20, th_I21, th_W21, th_R22, th_R23, th_R24, th_R25, th_R26, th_R27, th_R28, th_I29, th_W29, th_I30, th_W30, th_I31, th_W31, th_R32, th_I33, th_W33, th_A0, th_S0, th_L0, th_A1, th_S1, th_L1, th_A2, th_S2, th_L2, th_A3, th_S3, th_L3, th_A4, th_S4, th_L4, th_A5, th_S5, th_L5, th_A6, th_S6, th_L6, th_A7, th_S7, th_L7, th_A8, th_S8, th_L8, th_A9, th_S9, th_L9, th_A10, th_S10, th_L10, th_A11, th_S11, th_L11, th_A12, th_S12, th_L12, th_A13, th_S13, th_L13, th_A14, th_S14, th_L14, th_A15, th_S15, th_L15, th_A16, th_S16, th_L16, th_A17, th_S17, th_L17, hb_some, hbx_inr, hbx_inl, Option.bind_some, iLT_in, iLE_in, iEQ_in, iIN_in, rtZ_in, rtC_in, rtB_in, if_pos]
  by_cases g0 : t.2 0 1 ≤ q
  · rw [if_pos g0, if_pos (Or.inl g0)]
    exact ⟨t, rfl, tKp.refl t, ht, kEq.refl _, nEq.refl _⟩
  rw [if_neg g0]
  by_cases g : q + m ≤ t.2 0 1
  · rw [if_pos g, if_neg (by omega)]
    unfold b_X9_swapNow_34
    refine fx_FU (bot := fun (_ : Option Nat) (_ _ _ _ _ _ : Int) (_ : HP) => (none : Option (Int × HP))) (body := c_X9_swapNow_34)
      (fun F (s : Int × Int × TS) => F (some b) q m x y s.1 s.2.1 (TH b s.2.2 h)) (fun s => (16 + q ≤ s.2.1 ∧ s.2.1 ≤ 16 + q + m) ∧ tKp t s.2.2 ∧ s.1 + cnt (fun k => decide (t.2 0 (16 + k) = x ∨ t.2 0 (16 + k) = y)) (s.2.1 - 16) (16 + q + m - s.2.1).toNat = kSwn (kOf (t.2 0)) q m x y ∧
        ∀ i, s.2.2.2 0 i = if 16 + q ≤ i ∧ i < s.2.1 then swp x y (t.2 0 i) else t.2 0 i) (fun s => (16 + q + m - s.2.1).toNat)
      (fun s v => ∃ t', v = some (kSwn (kOf (t.2 0)) q m x y, TH b t' h) ∧ tKp t t' ∧ tGo t' ∧ kEq (kCl (kSw1 (kOf (t.2 0)) q m x y)) (kOf (t'.2 0)) ∧ nEq (t.2 0) (t'.2 0)) ?_
      (0, 16 + q, t) ⟨⟨by dsimp only; omega, by dsimp only; omega⟩, tKp.refl t, by
        dsimp only
        rw [show 16 + q - 16 = q by omega, show 16 + q + m - (16 + q) = m by omega, Int.zero_add]; rfl, fun i => by dsimp only; rw [if_neg (by omega)]⟩ (by dsimp only; omega)
    rintro rec ⟨n, k, u⟩ ⟨⟨h3, h4⟩, h5, h6, h7⟩ ih
    dsimp only at h3 h4 h5 h6 h7 ih ⊢
    unfold c_X9_swapNow_34
    by_cases g1 : 16 + q + m ≤ k
    · have ek : k = 16 + q + m := by omega
      subst ek
      rw [show (16 + q + m - (16 + q + m)).toNat = 0 by omega] at h6
      have h6 : n + 0 = kSwn (kOf (t.2 0)) q m x y := h6
      rw [Int.add_zero] at h6
      simp (discharger := omega) only [th_rcv, th_R0, th_R1, th_R2, th_R3, th_R4, th_R5, th_I6, th_W6, th_I7, th_W7, th_R8, th_R9, th_R10, th_R11, th_I12, th_W12, th_I13, th_W13, th_I14, th_W14, th_I15, th_W15, th_I16, th_W16, th_I17, th_W17, th_I18, th_W18, th_I19, th_W19, th_I20, th_W20, th_I21, th_W21, th_R22, th_R23, th_R24, th_R25, th_R26, th_R27, th_R28, th_I29, th_W29, th_I30, th_W30, th_I31, th_W31, th_R32, th_I33, th_W33, th_A0, th_S0, th_L0, th_A1, th_S1, th_L1, th_A2, th_S2, th_L2, th_A3, th_S3, th_L3, th_A4, th_S4, th_L4, th_A5, th_S5, th_L5, th_A6, th_S6, th_L6, th_A7, th_S7, th_L7, th_A8, th_S8, th_L8, th_A9, th_S9, th_L9, th_A10, th_S10, th_L10, th_A11, th_S11, th_L11, th_A12, th_S12, th_L12, th_A13, th_S13, th_L13, th_A14, th_S14, th_L14, th_A15, th_S15, th_L15, th_A16, th_S16, th_L16, th_A17, th_S17, th_L17, hb_some, hbx_inr, hbx_inl, Option.bind_some, iLT_in, iLE_in, iEQ_in, iIN_in, rtZ_in, rtC_in, rtB_in, if_pos]
      rw [x_counts (by omega) (by omega)]
      simp (discharger := omega) only [th_rcv, th_R0, th_R1, th_R2, th_R3, th_R4, th_R5, th_I6, th_W6, th_I7, th_W7, th_R8, th_R9, th_R10, th_R11, th_I12, th_W12, th_I13, th_W13, th_I14, th_W14, th_I15, th_W15, th_I16, th_W16, th_I17, th_W17, th_I18, th_W18, th_I19, th_W19, th_I20, th_W20, th_I21, th_W21, th_R22, th_R23, th_R24, th_R25, th_R26, th_R27, th_R28, th_I29, th_W29, th_I30, th_W30, th_I31, th_W31, th_R32, th_I33, th_W33, th_A0, th_S0, th_L0, th_A1, th_S1, th_L1, th_A2, th_S2, th_L2, th_A3, th_S3, th_L3, th_A4, th_S4, th_L4, th_A5, th_S5, th_L5, th_A6, th_S6, th_L6, th_A7, th_S7, th_L7, th_A8, th_S8, th_L8, th_A9, th_S9, th_L9, th_A10, th_S10, th_L10, th_A11, th_S11, th_L11, th_A12, th_S12, th_L12, th_A13, th_S13, th_L13, th_A14, th_S14, th_L14, th_A15, th_S15, th_L15, th_A16, th_S16, th_L16, th_A17, th_S17, th_L17, hb_some, hbx_inr, hbx_inl, Option.bind_some, iLT_in, iLE_in, iEQ_in, iIN_in, rtZ_in, rtC_in, rtB_in, if_pos]
      have ex : ∃ v : TS, v = (u.1, upN u.2 0 (upI (u.2 0) (4 + 6) (u.2 0 (4 + 6) + n))) := ⟨_, rfl⟩
      obtain ⟨v, hv⟩ := ex
      have v0 : ∀ i, v.2 0 i = if i = 10 then t.2 0 10 + n else if 16 + q ≤ i ∧ i < 16 + q + m then swp x y (t.2 0 i) else t.2 0 i := by
        intro i
        rw [hv]; dsimp only; rw [upN_0]
        by_cases e5 : i = 10
        · have e5' : i = 4 + 6 := e5
          rw [if_pos e5, e5', upI_eq, h7, if_neg (by omega)]; rfl
        · rw [if_neg e5, upI_ne (by omega), h7]
      have vk : tKp t v := by
        rw [hv]
        exact ⟨h5.1, fun j a b c d => by dsimp only; rw [upN_ne a]; exact h5.2 j a b c d⟩
      rw [← hv]
      have far : ∀ i, i ≠ 10 → ¬ (16 + q ≤ i ∧ i < 16 + q + m) → v.2 0 i = t.2 0 i := fun i a b => by rw [v0, if_neg a, if_neg b]
      obtain ⟨t', p1, p2, p3, p4, p5, p6⟩ := y_wash (b := b) (t := t) (h := h) (r1 := v.2 0) (K1 := kSw1 (kOf (t.2 0)) q m x y)
        (fun i hi => by
          rw [v0]
          by_cases e5 : i = 10
          · omega
          · rw [if_neg e5]
            have := ht.1.1 i hi
            by_cases e : 16 + q ≤ i ∧ i < 16 + q + m
            · rw [if_pos e]; unfold swp
              by_cases e1 : t.2 0 i = x
              · rw [if_pos e1]; omega
              · rw [if_neg e1]
                by_cases e2 : t.2 0 i = y
                · rw [if_pos e2]; omega
                · rw [if_neg e2]; exact this
            · rw [if_neg e]; exact this)
        (by rw [far 3 (by omega) (by omega)]; exact ht.2) (kOK_sw1 hk hx hy)
        (by
          refine ⟨far 1 (by omega) (by omega), far 0 (by omega) (by omega), far 2 (by omega) (by omega), kMl_eq (far 3 (by omega) (by omega)) (fun i hi => far i (by omega) (by omega)), fun j a b => ?_, fun p a b => ?_, fun p j a b c d => ?_, fun a b c => ?_⟩
          · have b : j < t.2 0 1 := b
            show v.2 0 (16 + j) = if q ≤ j ∧ j < q + m then swp x y (t.2 0 (16 + j)) else t.2 0 (16 + j)
            rw [v0, if_neg (by omega)]
            by_cases e : q ≤ j ∧ j < q + m
            · rw [if_pos e, if_pos (by omega)]
            · rw [if_neg e, if_neg (by omega)]
          · have b : p < t.2 0 2 := b
            exact far _ (by omega) (by omega)
          · have b : p < t.2 0 2 := b
            have d2 : ln t p ≤ 20 := (hok.2.2.2.2.2 p a b).2
            have d : j < ln t p := d
            exact far _ (by omega) (by omega)
          · show v.2 0 (4 + a) = upI (fun a => t.2 0 (4 + a)) 6 (t.2 0 10 + kSwn (kOf (t.2 0)) q m x y) a
            rw [v0, ← h6]
            by_cases e : a = 6
            · rw [e, upI_eq, if_pos (by omega)]
            · rw [upI_ne e, if_neg (by omega), if_neg (by omega)])
        (fun p j a b c d => far _ (by omega) (by omega)) (u := v) rfl vk
      rw [p1]
      exact ⟨t', by rw [h6]; rfl, p2, p3, p4, p5⟩
    · have ek : u.2 0 k = t.2 0 k := by rw [h7, if_neg (by omega)]
      have er := ht.1.1 k (by omega)
      rw [show (16 + q + m - k).toNat = (16 + q + m - (k + 1)).toNat + 1 by omega] at h6
      unfold cnt at h6
      rw [show 16 + (k - 16) = k by omega, show k - 16 + 1 = k + 1 - 16 by omega] at h6
      have o1 := fun (g : HP) => x_one (h := g) (z := true)
      have o0 := fun (g : HP) => x_one (h := g) (z := false)
      simp only [bZ, if_true, Bool.false_eq_true, if_false] at o1 o0
      have step : ∀ z : Int, z = swp x y (t.2 0 k) → ∀ n', n' + cnt (fun k => decide (t.2 0 (16 + k) = x ∨ t.2 0 (16 + k) = y)) (k + 1 - 16) (16 + q + m - (k + 1)).toNat = kSwn (kOf (t.2 0)) q m x y →
          ∃ t', rec (some b) q m x y n' (k + 1) (TH b (u.1, upN u.2 0 (upI (u.2 0) k z)) h) = some (kSwn (kOf (t.2 0)) q m x y, TH b t' h) ∧ tKp t t' ∧ tGo t' ∧ kEq (kCl (kSw1 (kOf (t.2 0)) q m x y)) (kOf (t'.2 0)) ∧ nEq (t.2 0) (t'.2 0) := by
        intro z hz n' hn'
        refine ih (n', k + 1, _) ⟨⟨by dsimp only; omega, by dsimp only; omega⟩, ⟨h5.1, fun j a b c d => by dsimp only; rw [upN_ne a]; exact h5.2 j a b c d⟩, hn', fun i => ?_⟩ (by dsimp only; omega)
        dsimp only
        rw [upN_0]
        by_cases e : i = k
        · rw [e, upI_eq, if_pos (by omega), hz]
        · rw [upI_ne e, h7]
          by_cases e2 : 16 + q ≤ i ∧ i < k
          · rw [if_pos e2, if_pos (by omega)]
          · rw [if_neg e2, if_neg (by omega)]
      unfold b_X9_swapNow_84 b_X9_swapNow_100 b_X9_swapNow_105
      simp (discharger := omega) only [th_rcv, th_R0, th_R1, th_R2, th_R3, th_R4, th_R5, th_I6, th_W6, th_I7, th_W7, th_R8, th_R9, th_R10, th_R11, th_I12, th_W12, th_I13, th_W13, th_I14, th_W14, th_I15, th_W15, th_I16, th_W16, th_I17, th_W17, th_I18, th_W18, th_I19, th_W19, th_I20, th_W20, th_I21, th_W21, th_R22, th_R23, th_R24, th_R25, th_R26, th_R27, th_R28, th_I29, th_W29, th_I30, th_W30, th_I31, th_W31, th_R32, th_I33, th_W33, th_A0, th_S0, th_L0, th_A1, th_S1, th_L1, th_A2, th_S2, th_L2, th_A3, th_S3, th_L3, th_A4, th_S4, th_L4, th_A5, th_S5, th_L5, th_A6, th_S6, th_L6, th_A7, th_S7, th_L7, th_A8, th_S8, th_L8, th_A9, th_S9, th_L9, th_A10, th_S10, th_L10, th_A11, th_S11, th_L11, th_A12, th_S12, th_L12, th_A13, th_S13, th_L13, th_A14, th_S14, th_L14, th_A15, th_S15, th_L15, th_A16, th_S16, th_L16, th_A17, th_S17, th_L17, hb_some, hbx_inr, hbx_inl, Option.bind_some, iLT_in, iLE_in, iEQ_in, iIN_in, rtZ_in, rtC_in, rtB_in, if_pos, if_neg, ek]
      by_cases e1 : t.2 0 k = x
      · simp only [e1, if_true, true_or, decide_true] at h6 ⊢
        simp (discharger := omega) only [th_rcv, th_R0, th_R1, th_R2, th_R3, th_R4, th_R5, th_I6, th_W6, th_I7, th_W7, th_R8, th_R9, th_R10, th_R11, th_I12, th_W12, th_I13, th_W13, th_I14, th_W14, th_I15, th_W15, th_I16, th_W16, th_I17, th_W17, th_I18, th_W18, th_I19, th_W19, th_I20, th_W20, th_I21, th_W21, th_R22, th_R23, th_R24, th_R25, th_R26, th_R27, th_R28, th_I29, th_W29, th_I30, th_W30, th_I31, th_W31, th_R32, th_I33, th_W33, th_A0, th_S0, th_L0, th_A1, th_S1, th_L1, th_A2, th_S2, th_L2, th_A3, th_S3, th_L3, th_A4, th_S4, th_L4, th_A5, th_S5, th_L5, th_A6, th_S6, th_L6, th_A7, th_S7, th_L7, th_A8, th_S8, th_L8, th_A9, th_S9, th_L9, th_A10, th_S10, th_L10, th_A11, th_S11, th_L11, th_A12, th_S12, th_L12, th_A13, th_S13, th_L13, th_A14, th_S14, th_L14, th_A15, th_S15, th_L15, th_A16, th_S16, th_L16, th_A17, th_S17, th_L17, hb_some, hbx_inr, hbx_inl, Option.bind_some, iLT_in, iLE_in, iEQ_in, iIN_in, rtZ_in, rtC_in, rtB_in, if_pos, o1]
        exact step y (by unfold swp; rw [if_pos e1]) (n + 1) (by rw [← h6, Int.add_assoc])
      · by_cases e2 : t.2 0 k = y
        · simp only [e2, or_true, decide_true, if_true] at h6
          rw [if_neg e1, if_pos e2]
          rw [o1]
          exact step x (by unfold swp; rw [if_neg e1, if_pos e2]) (n + 1) (by rw [← h6, Int.add_assoc])
        · simp only [e1, e2, or_self, decide_false, Bool.false_eq_true, if_false] at h6
          rw [if_neg e1, if_neg e2]
          rw [o0]
          exact step (t.2 0 k) (by unfold swp; rw [if_neg e1, if_neg e2]) (n + 0) (by rw [← h6, Int.add_assoc])
  · rw [if_neg g, if_pos (by omega)]
    exact ⟨t, rfl, tKp.refl t, ht, kEq.refl _, nEq.refl _⟩
def kTk1 (K : SK) (p q m : Int) : SK := (kn K, kt K, kf K, kp K, upI (kl K) p m, fun p' k => if p' = p then kt K (q + k) else kr K p' k, km K, upI (ka K) 7 (ka K 7 + 1))
def kTak (K : SK) (p q m : Int) : Int × SK := if kn K ≤ q ∨ kn K < q + m then (-4, K) else (kHits (kCl (kTk1 K p q m)) p, kCl (kTk1 K p q m))
theorem kOK_tk1 {K : SK} (hk : kOK K) {p q m : Int} (hq : 0 ≤ q) (hm : 1 ≤ m) (hm2 : m ≤ 20) (hn : q + m ≤ kn K) : kOK (kTk1 K p q m) := by
  obtain ⟨g1, g2, g3, g4, g5, g6, g7, g8⟩ := hk
  refine ⟨g1, g2, g3, g4, g5, fun p' a b => ?_, fun p' k a b c d => ?_, g8⟩
  · show 1 ≤ upI (kl K) p m p' ∧ upI (kl K) p m p' ≤ 20
    by_cases e : p' = p
    · rw [e, upI_eq]; omega
    · rw [upI_ne e]; exact g6 p' a b
  · have d : k < upI (kl K) p m p' := d
    show 0 ≤ (if p' = p then kt K (q + k) else kr K p' k) ∧ (if p' = p then kt K (q + k) else kr K p' k) < 26
    by_cases e : p' = p
    · rw [e, upI_eq] at d
      rw [if_pos e]; exact g5 _ (by omega) (by omega)
    · rw [upI_ne e] at d
      rw [if_neg e]; exact g7 p' k a b c d
theorem kTk1_eq {K K' : SK} (h : kEq K K') {p q m : Int} (hq : 0 ≤ q) (hm : 1 ≤ m) (hn : q + m ≤ kn K) : kEq (kTk1 K p q m) (kTk1 K' p q m) := by
  obtain ⟨h1, h2, h3, h4, h5, h6, h7, h8⟩ := h
  refine ⟨h1, h2, h3, h4, h5, fun p' a b => ?_, fun p' k a b c d => ?_, fun a b d => ?_⟩
  · show upI (kl K') p m p' = upI (kl K) p m p'
    by_cases e : p' = p
    · rw [e, upI_eq, upI_eq]
    · rw [upI_ne e, upI_ne e]; exact h6 p' a b
  · have d : k < upI (kl K) p m p' := d
    show (if p' = p then kt K' (q + k) else kr K' p' k) = if p' = p then kt K (q + k) else kr K p' k
    by_cases e : p' = p
    · rw [e, upI_eq] at d
      rw [if_pos e, if_pos e]; exact h5 _ (by omega) (by omega)
    · rw [upI_ne e] at d
      rw [if_neg e, if_neg e]; exact h7 p' k a b c d
  · show upI (ka K') 7 _ a = upI (ka K) 7 _ a
    by_cases e : a = 7
    · rw [e, upI_eq, upI_eq, h8 7 (by omega) (by omega)]
    · rw [upI_ne e, upI_ne e]; exact h8 a b d
theorem kTak_eq {K K' : SK} (h : kEq K K') (hk : kOK K) {p q m : Int} (hp : 0 ≤ p) (hp2 : p < kp K) (hq : 0 ≤ q) (hm : 1 ≤ m) (hm2 : m ≤ 20) : (kTak K' p q m).1 = (kTak K p q m).1 ∧ kEq (kTak K p q m).2 (kTak K' p q m).2 := by
  unfold kTak
  rw [h.1]
  by_cases g : kn K ≤ q ∨ kn K < q + m
  · rw [if_pos g, if_pos g]; exact ⟨rfl, h⟩
  · rw [if_neg g, if_neg g]
    have e := kCl_eq (kTk1_eq h (p := p) hq hm (by omega)) (kOK_tk1 hk hq hm hm2 (by omega))
    exact ⟨kHits_eq e hp hp2, e⟩
theorem x_puts {b : Nat} {t : TS} {h : HP} {p k z : Int} (h1 : 0 ≤ p) (h2 : p < 8) (h3 : 0 ≤ k) (h4 : k < 30) : f_X9_puts b p k z (TH b t h) = some ((), TH b (t.1, upN t.2 0 (upI (t.2 0) (216 + 30 * p + k) z)) h) := by
  unfold f_X9_puts
  simp (discharger := omega) only [th_rcv, th_R0, th_R1, th_R2, th_R3, th_R4, th_R5, th_I6, th_W6, th_I7, th_W7, th_R8, th_R9, th_R10, th_R11, th_I12, th_W12, th_I13, th_W13, th_I14, th_W14, th_I15, th_W15, th_I16, th_W16, th_I17, th_W17, th_I18, th_W18, th_I19, th_W19, th_I20, th_W20, th_I21, th_W21, th_R22, th_R23, th_R24, th_R25, th_R26, th_R27, th_R28, th_I29, th_W29, th_I30, th_W30, th_I31, th_W31, th_R32, th_I33, th_W33, th_A0, th_S0, th_L0, th_A1, th_S1, th_L1, th_A2, th_S2, th_L2, th_A3, th_S3, th_L3, th_A4, th_S4, th_L4, th_A5, th_S5, th_L5, th_A6, th_S6, th_L6, th_A7, th_S7, th_L7, th_A8, th_S8, th_L8, th_A9, th_S9, th_L9, th_A10, th_S10, th_L10, th_A11, th_S11, th_L11, th_A12, th_S12, th_L12, th_A13, th_S13, th_L13, th_A14, th_S14, th_L14, th_A15, th_S15, th_L15, th_A16, th_S16, th_L16, th_A17, th_S17, th_L17, hb_some, hbx_inr, hbx_inl, Option.bind_some, iLT_in, iLE_in, iEQ_in, iIN_in, rtZ_in, rtC_in, rtB_in, if_pos]
theorem y_takeNow {b : Nat} {t : TS} {h : HP} {p q m : Int} (ht : tGo t) (hp : 0 ≤ p) (hp2 : p < t.2 0 2) (hq : 0 ≤ q) (hq2 : q < 1000) (hm : 1 ≤ m) (hm2 : m ≤ 20) : tCh b t h (f_X9_takeNow b p q m (TH b t h)) (kTak (kOf (t.2 0)) p q m) := by
  have hk := ht.1.2
  have h1 : 1 ≤ t.2 0 1 ∧ t.2 0 1 ≤ 200 := hk.1
  have h2 : 0 ≤ t.2 0 2 ∧ t.2 0 2 ≤ 8 := hk.2.2.1
  have hok := tPl ht
  unfold tCh kTak
  have en : kn (kOf (t.2 0)) = t.2 0 1 := rfl
  rw [en]
  unfold f_X9_takeNow b_X9_takeNow_22
  simp (discharger := omega) only [th_rcv, th_R0, th_R1, th_R2, th_R3, th_R4, th_R5, th_I6, th_W6, th_I7, th_W7, th_R8, th_R9, th_R10, th_R11, th_I12, th_W12, th_I13, th_W13, th_I14, th_W14, th_I15, th_W15, th_I16, th_W16, th_I17, th_W17, th_I18, th_W18, th_I19, th_W19, th_I20, th_W20, th_I21, th_W21, th_R22, th_R23, th_R24, th_R25, th_R26, th_R27, th_R28, th_I29, th_W29, th_I30, th_W30, th_I31, th_W31, th_R32, th_I33, th_W33, th_A0, th_S0, th_L0, th_A1, th_S1, th_L1, th_A2, th_S2, th_L2, th_A3, th_S3, th_L3, th_A4, th_S4, th_L4, th_A5, th_S5, th_L5, th_A6, th_S6, th_L6, th_A7, th_S7, th_L7, th_A8, th_S8, th_L8, th_A9, th_S9, th_L9, th_A10, th_S10, th_L10, th_A11, th_S11, th_L11, th_A12, th_S12, th_L12, th_A13, th_S13, th_L13, th_A14, th_S14, th_L14, th_A15, th_S15, th_L15, th_A16, th_S16, th_L16, th_A17, th_S17, th_L17, hb_some, hbx_inr, hbx_inl, Option.bind_some, iLT_in, iLE_in, iEQ_in, iIN_in, rtZ_in, rtC_in, rtB_in, if_pos]
  by_cases g0 : t.2 0 1 ≤ q
  · rw [if_pos g0, if_pos (Or.inl g0)]
    exact ⟨t, rfl, tKp.refl t, ht, kEq.refl _, nEq.refl _⟩
  rw [if_neg g0]
  by_cases g : q + m ≤ t.2 0 1
  · rw [if_pos g, if_neg (by omega)]
    simp (discharger := omega) only [th_rcv, th_R0, th_R1, th_R2, th_R3, th_R4, th_R5, th_I6, th_W6, th_I7, th_W7, th_R8, th_R9, th_R10, th_R11, th_I12, th_W12, th_I13, th_W13, th_I14, th_W14, th_I15, th_W15, th_I16, th_W16, th_I17, th_W17, th_I18, th_W18, th_I19, th_W19, th_I20, th_W20, th_I21, th_W21, th_R22, th_R23, th_R24, th_R25, th_R26, th_R27, th_R28, th_I29, th_W29, th_I30, th_W30, th_I31, th_W31, th_R32, th_I33, th_W33, th_A0, th_S0, th_L0, th_A1, th_S1, th_L1, th_A2, th_S2, th_L2, th_A3, th_S3, th_L3, th_A4, th_S4, th_L4, th_A5, th_S5, th_L5, th_A6, th_S6, th_L6, th_A7, th_S7, th_L7, th_A8, th_S8, th_L8, th_A9, th_S9, th_L9, th_A10, th_S10, th_L10, th_A11, th_S11, th_L11, th_A12, th_S12, th_L12, th_A13, th_S13, th_L13, th_A14, th_S14, th_L14, th_A15, th_S15, th_L15, th_A16, th_S16, th_L16, th_A17, th_S17, th_L17, hb_some, hbx_inr, hbx_inl, Option.bind_some, iLT_in, iLE_in, iEQ_in, iIN_in, rtZ_in, rtC_in, rtB_in, if_pos, x_puts]
    unfold b_X9_takeNow_35
    refine fx_FU (bot := fun (_ : Option Nat) (_ _ _ _ : Int) (_ : HP) => (none : Option (Int × HP))) (body := c_X9_takeNow_35)
      (fun F (s : Int × TS) => F (some b) p q m s.1 (TH b s.2 h)) (fun s => (0 ≤ s.1 ∧ s.1 ≤ m) ∧ tKp t s.2 ∧
        ∀ i, s.2.2 0 i = if i = 216 + 30 * p then m else if 216 + 30 * p + 10 ≤ i ∧ i < 216 + 30 * p + 10 + s.1 then t.2 0 (16 + q + (i - (216 + 30 * p + 10))) else t.2 0 i) (fun s => (m - s.1).toNat)
      (fun s v => ∃ t', v = some (kHits (kCl (kTk1 (kOf (t.2 0)) p q m)) p, TH b t' h) ∧ tKp t t' ∧ tGo t' ∧ kEq (kCl (kTk1 (kOf (t.2 0)) p q m)) (kOf (t'.2 0)) ∧ nEq (t.2 0) (t'.2 0)) ?_
      (0, (t.1, upN t.2 0 (upI (t.2 0) (216 + 30 * p + 0) m))) ⟨⟨by dsimp only; omega, by dsimp only; omega⟩, ⟨rfl, fun j a _ _ _ => by dsimp only; rw [upN_ne a]⟩, fun i => by
        dsimp only
        rw [upN_0, Int.add_zero]
        by_cases e : i = 216 + 30 * p
        · rw [e, upI_eq, if_pos rfl]
        · rw [upI_ne e, if_neg e, if_neg (by omega)]⟩ (by dsimp only; omega)
    rintro rec ⟨k, u⟩ ⟨⟨h3, h4⟩, h5, h7⟩ ih
    dsimp only at h3 h4 h5 h7 ih ⊢
    unfold c_X9_takeNow_35
    by_cases g1 : m ≤ k
    · have ek : k = m := by omega
      subst ek
      simp (discharger := omega) only [th_rcv, th_R0, th_R1, th_R2, th_R3, th_R4, th_R5, th_I6, th_W6, th_I7, th_W7, th_R8, th_R9, th_R10, th_R11, th_I12, th_W12, th_I13, th_W13, th_I14, th_W14, th_I15, th_W15, th_I16, th_W16, th_I17, th_W17, th_I18, th_W18, th_I19, th_W19, th_I20, th_W20, th_I21, th_W21, th_R22, th_R23, th_R24, th_R25, th_R26, th_R27, th_R28, th_I29, th_W29, th_I30, th_W30, th_I31, th_W31, th_R32, th_I33, th_W33, th_A0, th_S0, th_L0, th_A1, th_S1, th_L1, th_A2, th_S2, th_L2, th_A3, th_S3, th_L3, th_A4, th_S4, th_L4, th_A5, th_S5, th_L5, th_A6, th_S6, th_L6, th_A7, th_S7, th_L7, th_A8, th_S8, th_L8, th_A9, th_S9, th_L9, th_A10, th_S10, th_L10, th_A11, th_S11, th_L11, th_A12, th_S12, th_L12, th_A13, th_S13, th_L13, th_A14, th_S14, th_L14, th_A15, th_S15, th_L15, th_A16, th_S16, th_L16, th_A17, th_S17, th_L17, hb_some, hbx_inr, hbx_inl, Option.bind_some, iLT_in, iLE_in, iEQ_in, iIN_in, rtZ_in, rtC_in, rtB_in, if_pos]
      rw [x_counts (by omega) (by omega)]
      simp (discharger := omega) only [th_rcv, th_R0, th_R1, th_R2, th_R3, th_R4, th_R5, th_I6, th_W6, th_I7, th_W7, th_R8, th_R9, th_R10, th_R11, th_I12, th_W12, th_I13, th_W13, th_I14, th_W14, th_I15, th_W15, th_I16, th_W16, th_I17, th_W17, th_I18, th_W18, th_I19, th_W19, th_I20, th_W20, th_I21, th_W21, th_R22, th_R23, th_R24, th_R25, th_R26, th_R27, th_R28, th_I29, th_W29, th_I30, th_W30, th_I31, th_W31, th_R32, th_I33, th_W33, th_A0, th_S0, th_L0, th_A1, th_S1, th_L1, th_A2, th_S2, th_L2, th_A3, th_S3, th_L3, th_A4, th_S4, th_L4, th_A5, th_S5, th_L5, th_A6, th_S6, th_L6, th_A7, th_S7, th_L7, th_A8, th_S8, th_L8, th_A9, th_S9, th_L9, th_A10, th_S10, th_L10, th_A11, th_S11, th_L11, th_A12, th_S12, th_L12, th_A13, th_S13, th_L13, th_A14, th_S14, th_L14, th_A15, th_S15, th_L15, th_A16, th_S16, th_L16, th_A17, th_S17, th_L17, hb_some, hbx_inr, hbx_inl, Option.bind_some, iLT_in, iLE_in, iEQ_in, iIN_in, rtZ_in, rtC_in, rtB_in, if_pos]
      have ex : ∃ v : TS, v = (u.1, upN u.2 0 (upI (u.2 0) (4 + 7) (u.2 0 (4 + 7) + 1))) := ⟨_, rfl⟩
      obtain ⟨v, hv⟩ := ex
      have v0 : ∀ i, v.2 0 i = if i = 11 then t.2 0 11 + 1 else if i = 216 + 30 * p then k else if 216 + 30 * p + 10 ≤ i ∧ i < 216 + 30 * p + 10 + k then t.2 0 (16 + q + (i - (216 + 30 * p + 10))) else t.2 0 i := by
        intro i
        rw [hv]; dsimp only; rw [upN_0]
        by_cases e5 : i = 11
        · have e5' : i = 4 + 7 := e5
          rw [if_pos e5, e5', upI_eq, h7, if_neg (by omega), if_neg (by omega)]; rfl
        · rw [if_neg e5, upI_ne (by omega), h7]
      have vk : tKp t v := by
        rw [hv]
        exact ⟨h5.1, fun j a b c d => by dsimp only; rw [upN_ne a]; exact h5.2 j a b c d⟩
      rw [← hv]
      have far : ∀ i, i ≠ 11 → i ≠ 216 + 30 * p → ¬ (216 + 30 * p + 10 ≤ i ∧ i < 216 + 30 * p + 10 + k) → v.2 0 i = t.2 0 i := fun i a b c => by rw [v0, if_neg a, if_neg b, if_neg c]
      obtain ⟨t', p1, p2, p3, p4, p5, p6⟩ := y_wash (b := b) (t := t) (h := h) (r1 := v.2 0) (K1 := kTk1 (kOf (t.2 0)) p q k)
        (fun i hi => by
          rw [v0]
          by_cases e5 : i = 11
          · omega
          · rw [if_neg e5]
            by_cases e6 : i = 216 + 30 * p
            · rw [if_pos e6]; omega
            · rw [if_neg e6]
              by_cases e : 216 + 30 * p + 10 ≤ i ∧ i < 216 + 30 * p + 10 + k
              · rw [if_pos e]; exact ht.1.1 _ (by omega)
              · rw [if_neg e]; exact ht.1.1 i hi)
        (by rw [far 3 (by omega) (by omega) (by omega)]; exact ht.2) (kOK_tk1 hk hq hm hm2 (by rw [en]; omega))
        (by
          refine ⟨far 1 (by omega) (by omega) (by omega), far 0 (by omega) (by omega) (by omega), far 2 (by omega) (by omega) (by omega), kMl_eq (far 3 (by omega) (by omega) (by omega)) (fun i hi => far i (by omega) (by omega) (by omega)), fun j a b => ?_, fun p' a b => ?_, fun p' j a b c d => ?_, fun a b c => ?_⟩
          · have b : j < t.2 0 1 := b
            exact far _ (by omega) (by omega) (by omega)
          · have b : p' < t.2 0 2 := b
            show v.2 0 (216 + 30 * p') = upI (fun p => t.2 0 (216 + 30 * p)) p k p'
            by_cases e : p' = p
            · rw [e, upI_eq, v0, if_neg (by omega), if_pos rfl]
            · rw [upI_ne e]; exact far _ (by omega) (by omega) (by omega)
          · have b : p' < t.2 0 2 := b
            have d : j < upI (fun p => t.2 0 (216 + 30 * p)) p k p' := d
            show v.2 0 (216 + 30 * p' + 10 + j) = if p' = p then t.2 0 (16 + (q + j)) else t.2 0 (216 + 30 * p' + 10 + j)
            by_cases e : p' = p
            · rw [e, upI_eq] at d
              rw [if_pos e, e, v0, if_neg (by omega), if_neg (by omega), if_pos (by omega)]
              rw [show 16 + q + (216 + 30 * p + 10 + j - (216 + 30 * p + 10)) = 16 + (q + j) by omega]
            · rw [upI_ne e] at d
              have d2 : ln t p' ≤ 20 := (hok.2.2.2.2.2 p' a b).2
              have d : j < ln t p' := d
              rw [if_neg e]; exact far _ (by omega) (by omega) (by omega)
          · show v.2 0 (4 + a) = upI (fun a => t.2 0 (4 + a)) 7 (t.2 0 11 + 1) a
            rw [v0]
            by_cases e : a = 7
            · rw [e, upI_eq, if_pos (by omega)]
            · rw [upI_ne e, if_neg (by omega), if_neg (by omega), if_neg (by omega)])
        (fun p' j a b c d => far _ (by omega) (by omega) (by omega)) (u := v) rfl vk
      rw [p1]
      simp (discharger := omega) only [th_rcv, th_R0, th_R1, th_R2, th_R3, th_R4, th_R5, th_I6, th_W6, th_I7, th_W7, th_R8, th_R9, th_R10, th_R11, th_I12, th_W12, th_I13, th_W13, th_I14, th_W14, th_I15, th_W15, th_I16, th_W16, th_I17, th_W17, th_I18, th_W18, th_I19, th_W19, th_I20, th_W20, th_I21, th_W21, th_R22, th_R23, th_R24, th_R25, th_R26, th_R27, th_R28, th_I29, th_W29, th_I30, th_W30, th_I31, th_W31, th_R32, th_I33, th_W33, th_A0, th_S0, th_L0, th_A1, th_S1, th_L1, th_A2, th_S2, th_L2, th_A3, th_S3, th_L3, th_A4, th_S4, th_L4, th_A5, th_S5, th_L5, th_A6, th_S6, th_L6, th_A7, th_S7, th_L7, th_A8, th_S8, th_L8, th_A9, th_S9, th_L9, th_A10, th_S10, th_L10, th_A11, th_S11, th_L11, th_A12, th_S12, th_L12, th_A13, th_S13, th_L13, th_A14, th_S14, th_L14, th_A15, th_S15, th_L15, th_A16, th_S16, th_L16, th_A17, th_S17, th_L17, hb_some, hbx_inr, hbx_inl, Option.bind_some, iLT_in, iLE_in, iEQ_in, iIN_in, rtZ_in, rtC_in, rtB_in, if_pos]
      have e2 : t'.2 0 2 = t.2 0 2 := p4.2.2.1
      rw [x_hits (tPl p3) hp (by rw [e2]; exact hp2)]
      refine ⟨t', ?_, p2, p3, p4, p5⟩
      rw [kOf_hits, kHits_eq p4 hp hp2]; rfl
    · have ek : u.2 0 (16 + q + k) = t.2 0 (16 + q + k) := by rw [h7, if_neg (by omega), if_neg (by omega)]
      simp (discharger := omega) only [th_rcv, th_R0, th_R1, th_R2, th_R3, th_R4, th_R5, th_I6, th_W6, th_I7, th_W7, th_R8, th_R9, th_R10, th_R11, th_I12, th_W12, th_I13, th_W13, th_I14, th_W14, th_I15, th_W15, th_I16, th_W16, th_I17, th_W17, th_I18, th_W18, th_I19, th_W19, th_I20, th_W20, th_I21, th_W21, th_R22, th_R23, th_R24, th_R25, th_R26, th_R27, th_R28, th_I29, th_W29, th_I30, th_W30, th_I31, th_W31, th_R32, th_I33, th_W33, th_A0, th_S0, th_L0, th_A1, th_S1, th_L1, th_A2, th_S2, th_L2, th_A3, th_S3, th_L3, th_A4, th_S4, th_L4, th_A5, th_S5, th_L5, th_A6, th_S6, th_L6, th_A7, th_S7, th_L7, th_A8, th_S8, th_L8, th_A9, th_S9, th_L9, th_A10, th_S10, th_L10, th_A11, th_S11, th_L11, th_A12, th_S12, th_L12, th_A13, th_S13, th_L13, th_A14, th_S14, th_L14, th_A15, th_S15, th_L15, th_A16, th_S16, th_L16, th_A17, th_S17, th_L17, hb_some, hbx_inr, hbx_inl, Option.bind_some, iLT_in, iLE_in, iEQ_in, iIN_in, rtZ_in, rtC_in, rtB_in, if_pos, if_neg, ek]
      rw [x_puts hp (by omega) (by omega) (by omega)]
      refine ih (k + 1, _) ⟨⟨by dsimp only; omega, by dsimp only; omega⟩, ⟨h5.1, fun j a b c d => by dsimp only; rw [upN_ne a]; exact h5.2 j a b c d⟩, fun i => ?_⟩ (by dsimp only; omega)
      dsimp only
      rw [upN_0, ← Int.add_assoc]
      by_cases e : i = 216 + 30 * p + 10 + k
      · rw [e, upI_eq, if_neg (by omega), if_pos (by omega), show 16 + q + (216 + 30 * p + 10 + k - (216 + 30 * p + 10)) = 16 + q + k by omega]
      · rw [upI_ne e, h7]
        by_cases e1 : i = 216 + 30 * p
        · rw [if_pos e1, if_pos e1]
        · rw [if_neg e1, if_neg e1]
          by_cases e2 : 216 + 30 * p + 10 ≤ i ∧ i < 216 + 30 * p + 10 + k
          · rw [if_pos e2, if_pos (by omega)]
          · rw [if_neg e2, if_neg (by omega)]
  · rw [if_neg g, if_pos (by omega)]
    exact ⟨t, rfl, tKp.refl t, ht, kEq.refl _, nEq.refl _⟩
