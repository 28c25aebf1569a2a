/-! STAGE 2i: the reference: changes. -/
set_option maxRecDepth 100000
def tGo (t : TS) : Prop := tGd t ∧ 0 ≤ t.2 0 3
/-- names of patterns as they were -/
def nEq (w w' : Int → Int) : Prop := ∀ p k, 0 ≤ p → p < 8 → 1 ≤ k → k ≤ 9 → w' (216 + 30 * p + k) = w (216 + 30 * p + k)
theorem nEq.refl (w : Int → Int) : nEq w w := fun _ _ _ _ _ _ => rfl
theorem nEq.trans {a b c : Int → Int} (h : nEq a b) (k : nEq b c) : nEq a c := fun p i h1 h2 h3 h4 => (k p i h1 h2 h3 h4).trans (h p i h1 h2 h3 h4)
/-- what a change leaves behind -/
def tCh (b : Nat) (t : TS) (h : HP) (f : Option (Int × HP)) (z : Int × SK) : Prop := ∃ t', f = some (z.1, TH b t' h) ∧ tKp t t' ∧ tGo t' ∧ kEq z.2 (kOf (t'.2 0)) ∧ nEq (t.2 0) (t'.2 0)
theorem kMl_eq {w w' : Int → Int} (h3 : w' 3 = w 3) (h : ∀ i, 456 ≤ i → w' i = w i) : kMl w' = kMl w := by
  unfold kMl
  rw [h3]
  refine List.map_congr_left fun i _ => ?_
  rw [h _ (by omega), h _ (by omega)]
def kPut (K : SK) (q c : Int) : Int × SK := if kn K ≤ q then (-4, K) else (kt K q, kCl (kn K, upI (kt K) q c, kf K, kp K, kl K, kr K, km K, upI (ka K) 0 (ka K 0 + 1)))
theorem kOK_put {K : SK} (hk : kOK K) {q c : Int} (h : 0 ≤ c) (h2 : c < 26) {a : Int → Int} : kOK (kn K, upI (kt K) q c, kf K, kp K, kl K, kr K, km K, a) := by
  obtain ⟨g1, g2, g3, g4, g5, g6, g7, g8⟩ := hk
  refine ⟨g1, g2, g3, g4, fun k a b => ?_, g6, g7, g8⟩
  show 0 ≤ upI (kt K) q c k ∧ upI (kt K) q c k < 26
  by_cases e : k = q
  · rw [e, upI_eq]; omega
  · rw [upI_ne e]; exact g5 k a b
theorem kPut_eq {K K' : SK} (h : kEq K K') (hk : kOK K) {q c : Int} (hq : 0 ≤ q) (hc : 0 ≤ c) (hc2 : c < 26) : (kPut K' q c).1 = (kPut K q c).1 ∧ kEq (kPut K q c).2 (kPut K' q c).2 := by
  have hh := h
  obtain ⟨h1, h2, h3, h4, h5, h6, h7, h8⟩ := h
  unfold kPut
  rw [h1]
  by_cases g : kn K ≤ q
  · rw [if_pos g, if_pos g]; exact ⟨rfl, hh⟩
  · rw [if_neg g, if_neg g]
    refine ⟨h5 q hq (by omega), kCl_eq ⟨rfl, h2, h3, h4, fun k a b => ?_, h6, h7, fun a b d => ?_⟩ (kOK_put hk hc hc2)⟩
    · show upI (kt K') q c k = upI (kt K) q c k
      by_cases e : k = q
      · rw [e, upI_eq, upI_eq]
      · rw [upI_ne e, upI_ne e]; exact h5 k a b
    · show upI (ka K') 0 _ a = upI (ka K) 0 _ a
      by_cases e : a = 0
      · rw [e, upI_eq, upI_eq, h8 0 (by omega) (by omega)]
      · rw [upI_ne e, upI_ne e]; exact h8 a b d
/-- a row that is written, and cleaned -/
theorem y_wash {b : Nat} {t : TS} {h : HP} {r1 : Int → Int} {K1 : SK} (hi : ∀ i, i < 4 ∨ 12 ≤ i → -1000000 ≤ r1 i ∧ r1 i ≤ 1000000) (h3 : 0 ≤ r1 3) (hk : kOK K1) (he : kEq K1 (kOf r1)) (hn : nEq (t.2 0) r1) {u : TS} (hu : u.2 0 = r1) (hku : tKp t u) :
    ∃ t', f_X9_cleans b (TH b u h) = some ((), TH b t' h) ∧ tKp t t' ∧ tGo t' ∧ kEq (kCl K1) (kOf (t'.2 0)) ∧ nEq (t.2 0) (t'.2 0) ∧ t'.2 0 1 = r1 1 := by
  obtain ⟨t', p1, p2, p3, p4, p5, p6⟩ := y_cleans (b := b) (t := u) (h := h) ⟨by unfold tIn; rw [hu]; exact hi, by rw [hu]; exact kOK_eq he hk⟩ (by rw [hu]; exact h3)
  rw [hu] at p5 p6
  exact ⟨t', p1, hku.trans p2, ⟨p3, p4⟩, (kCl_eq he hk).trans p5, hn.trans (fun p k a b c d => p6 _ (by omega) (by omega) (by omega)), p6 1 (by omega) (by omega) (by omega)⟩
theorem y_putNow {b : Nat} {t : TS} {h : HP} {q c : Int} (ht : tGo t) (hq : 0 ≤ q) (hq2 : q < 1000) (hc : 0 ≤ c) (hc2 : c < 26) : tCh b t h (f_X9_putNow b q c (TH b t h)) (kPut (kOf (t.2 0)) q c) := by
  have hk := ht.1.2
  have h1 : 1 ≤ t.2 0 1 ∧ t.2 0 1 ≤ 200 := hk.1
  unfold tCh kPut
  have en : kn (kOf (t.2 0)) = t.2 0 1 := rfl
  rw [en]
  unfold f_X9_putNow
  simp (discharger := omega) only [th_rcv, th_R0, th_R1, th_R2, th_R3, th_R4, th_R5, th_I6, th_W6, th_I7, th_W7, th_R8, th_R9, th_R10, th_R11, th_I12, th_W12, th_I13, th_W13, th_I14, th_W14, th_I15, th_W15, th_I16, th_W16, th_I17, th_W17, th_I18, th_W18, th_I19, th_W19, th_I20, th_W20, th_I21, th_W21, th_R22, th_R23, th_R24, th_R25, th_R26, th_R27, th_R28, th_I29, th_W29, th_I30, th_W30, th_I31, th_W31, th_R32, th_I33, th_W33, th_A0, th_S0, th_L0, th_A1, th_S1, th_L1, th_A2, th_S2, th_L2, th_A3, th_S3, th_L3, th_A4, th_S4, th_L4, th_A5, th_S5, th_L5, th_A6, th_S6, th_L6, th_A7, th_S7, th_L7, th_A8, th_S8, th_L8, th_A9, th_S9, th_L9, th_A10, th_S10, th_L10, th_A11, th_S11, th_L11, th_A12, th_S12, th_L12, th_A13, th_S13, th_L13, th_A14, th_S14, th_L14, th_A15, th_S15, th_L15, th_A16, th_S16, th_L16, th_A17, th_S17, th_L17, hb_some, hbx_inr, hbx_inl, Option.bind_some, iLT_in, iLE_in, iEQ_in, iIN_in, rtZ_in, rtC_in, rtB_in, if_pos]
  by_cases g : q < t.2 0 1
  · rw [if_pos g, if_neg (by omega)]
    simp (discharger := omega) only [th_rcv, th_R0, th_R1, th_R2, th_R3, th_R4, th_R5, th_I6, th_W6, th_I7, th_W7, th_R8, th_R9, th_R10, th_R11, th_I12, th_W12, th_I13, th_W13, th_I14, th_W14, th_I15, th_W15, th_I16, th_W16, th_I17, th_W17, th_I18, th_W18, th_I19, th_W19, th_I20, th_W20, th_I21, th_W21, th_R22, th_R23, th_R24, th_R25, th_R26, th_R27, th_R28, th_I29, th_W29, th_I30, th_W30, th_I31, th_W31, th_R32, th_I33, th_W33, th_A0, th_S0, th_L0, th_A1, th_S1, th_L1, th_A2, th_S2, th_L2, th_A3, th_S3, th_L3, th_A4, th_S4, th_L4, th_A5, th_S5, th_L5, th_A6, th_S6, th_L6, th_A7, th_S7, th_L7, th_A8, th_S8, th_L8, th_A9, th_S9, th_L9, th_A10, th_S10, th_L10, th_A11, th_S11, th_L11, th_A12, th_S12, th_L12, th_A13, th_S13, th_L13, th_A14, th_S14, th_L14, th_A15, th_S15, th_L15, th_A16, th_S16, th_L16, th_A17, th_S17, th_L17, hb_some, hbx_inr, hbx_inl, Option.bind_some, iLT_in, iLE_in, iEQ_in, iIN_in, rtZ_in, rtC_in, rtB_in, if_pos, x_counts]
    obtain ⟨t', p1, p2, p3, p4, p5, p6⟩ := y_wash (b := b) (t := t) (h := h) (r1 := upI (upI (t.2 0) (16 + q) c) (4 + 0) (t.2 0 4 + 1)) (K1 := (t.2 0 1, upI (fun k => t.2 0 (16 + k)) q c, kf (kOf (t.2 0)), kp (kOf (t.2 0)), kl (kOf (t.2 0)), kr (kOf (t.2 0)), km (kOf (t.2 0)), upI (ka (kOf (t.2 0))) 0 (t.2 0 4 + 1)))
      (fun i hi => by
        rw [upI_ne (by omega)]
        by_cases e : i = 16 + q
        · rw [e, upI_eq]; omega
        · rw [upI_ne e]; exact ht.1.1 i hi)
      (by rw [upI_ne (by omega), upI_ne (by omega)]; exact ht.2)
      (kOK_put hk hc hc2)
      (by
        have hk3 : 0 ≤ t.2 0 2 ∧ t.2 0 2 ≤ 8 := hk.2.2.1
        have rw1 : ∀ i : Int, i ≠ 4 → i ≠ 16 + q → upI (upI (t.2 0) (16 + q) c) (4 + 0) (t.2 0 4 + 1) i = t.2 0 i := fun i a b => by rw [upI_ne (by omega), upI_ne b]
        refine ⟨rw1 1 (by omega) (by omega), rw1 0 (by omega) (by omega), rw1 2 (by omega) (by omega), ?_, fun k a b => ?_, fun p a b => ?_, fun p k a b c d => ?_, fun a b c => ?_⟩
        · exact kMl_eq (by rw [upI_ne (by omega), upI_ne (by omega)]) (fun i hi => by rw [upI_ne (by omega), upI_ne (by omega)])
        · show upI (upI (t.2 0) (16 + q) c) (4 + 0) _ (16 + k) = upI (fun k => t.2 0 (16 + k)) q c k
          rw [upI_ne (by omega)]
          by_cases e : k = q
          · rw [e, upI_eq, upI_eq]
          · rw [upI_ne e, upI_ne (by omega)]
        · have b : p < t.2 0 2 := b
          show upI (upI (t.2 0) (16 + q) _) (4 + 0) _ (216 + 30 * p) = _
          rw [upI_ne (by omega), upI_ne (by omega)]; rfl
        · have b : p < t.2 0 2 := b
          show upI (upI (t.2 0) (16 + q) _) (4 + 0) _ (216 + 30 * p + 10 + k) = _
          rw [upI_ne (by omega), upI_ne (by omega)]; rfl
        · show upI (upI (t.2 0) (16 + q) _) (4 + 0) _ (4 + a) = upI (fun a => t.2 0 (4 + a)) 0 _ a
          by_cases e : a = 0
          · rw [e, upI_eq, upI_eq]
          · rw [upI_ne e, upI_ne (by omega), upI_ne (by omega)])
      (fun p k a b c d => by rw [upI_ne (by omega), upI_ne (by omega)])
      (u := (t.1, upN (upN t.2 0 (upI (t.2 0) (16 + q) c)) 0 (upI (upI (t.2 0) (16 + q) c) (4 + 0) (t.2 0 4 + 1)))) (by dsimp only; rw [upN_0])
      ⟨rfl, fun j a b c d => by dsimp only; rw [upN_ne a, upN_ne a]⟩
    have e4 : upN t.2 0 (upI (t.2 0) (16 + q) c) 0 (4 + 0) = t.2 0 4 := by rw [upN_0, upI_ne (by omega)]; rfl
    rw [e4, upN_0, p1]
    exact ⟨t', rfl, p2, p3, p4, p5⟩
  · rw [if_neg g, if_pos (by omega)]
    exact ⟨t, rfl, tKp.refl t, ht, kEq.refl _, nEq.refl _⟩
