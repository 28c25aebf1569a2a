/-! STAGE 2w: the reference: windows, twins, what would be. -/
set_option maxRecDepth 100000
def kNew (K : SK) (q m : Int) : Bool := (fnd (fun k => decide (al (kw K k) (kw K q) (kf K) m = m)) 0 q.toNat).isNone
def kCls (K : SK) (m : Int) : Int := cnt (fun q => kNew K q m) 0 (kn K + 1 - m).toNat
theorem kOf_clss {t : TS} {m : Int} : clss t m = kCls (kOf (t.2 0)) m := by
  unfold clss kCls neww kNew
  simp only [kOf_tx]
  rfl
def oClasses (K : SK) (m : Int) : Int × Int := if 1 ≤ m ∧ m ≤ 200 then (kCls K m, 0) else (0, 1)
theorem o_classes {b : Nat} {t : TS} {h : HP} {m : Int} (ht : tGo t) (hm : inR m) : ∃ t', f_X9_classes b m (TH b t h) = some ((oClasses (kOf (t.2 0)) m).1, TH b t' h) ∧ tOb t t' (oClasses (kOf (t.2 0)) m).2 := by
  have e : (upN t.1 7 0, t.2) = thr t 0 := rfl
  have hg := tGo_thr (k := 0) ht
  have hok := tPl hg
  obtain ⟨f1, f0⟩ := x_failsP (b := b) (t := thr t 0) (h := h) (k := 1) (by omega) (by omega) thr_7
  unfold f_X9_classes oClasses
  simp only [th_W7, Option.bind_some]
  rw [e, x_in hm (by omega) (by omega)]
  simp only [hb_some, iEQ_bZ]
  unfold b_X9_classes_22
  by_cases g : 1 ≤ m ∧ m ≤ 200
  · simp only [g, and_self, decide_true, if_true, th_rcv, Option.bind_some, f0, hb_some, i00]
    rw [x_classes_l hok g.1 g.2]
    exact ⟨_, by rw [kOf_clss]; rfl, tOb_thr t 0⟩
  · simp only [g, decide_false, Bool.false_eq_true, if_false, th_rcv, Option.bind_some, f1, hb_some, i10]
    rw [thr_thr]
    exact ⟨_, rfl, tOb_thr t 1⟩
theorem upI_back {f : Int → Int} {i v : Int} : upI (upI f i v) i (f i) = f := by
  funext j
  by_cases e : j = i
  · rw [e, upI_eq]
  · rw [upI_ne e, upI_ne e]
theorem upN_back {f : Nat → Int → Int} {A : Int → Int} : upN (upN f 0 A) 0 (f 0) = f := by
  funext j
  unfold upN
  by_cases e : j = 0
  · rw [if_pos e, e]
  · rw [if_neg e, if_neg e]
def kLt (K : SK) (q c : Int) : SK := (kn K, upI (kt K) q c, kf K, kp K, kl K, kr K, km K, ka K)
theorem x_hitsWith {b : Nat} {t : TS} {h : HP} {p q c : Int} (ht : tGo t) (hp : 0 ≤ p) (hp2 : p < t.2 0 2) (hq : 0 ≤ q) (hq2 : q < t.2 0 1) (hc : 0 ≤ c) (hc2 : c < 26) : f_X9_hitsWith b p q c (TH b t h) = some (kHits (kLt (kOf (t.2 0)) q c) p, TH b t h) := by
  have hk := ht.1.2
  have h1 : 1 ≤ t.2 0 1 ∧ t.2 0 1 ≤ 200 := hk.1
  have h2 : 0 ≤ t.2 0 2 ∧ t.2 0 2 ≤ 8 := hk.2.2.1
  have hok := tPl ht
  unfold f_X9_hitsWith
  simp (discharger := omega) only [th_R0, th_A0, th_S0, th_rcv, Option.bind_some, if_pos]
  have far : ∀ i, i ≠ 16 + q → upI (t.2 0) (16 + q) c i = t.2 0 i := fun i hi => upI_ne hi
  have v0 : ∀ i, (upN t.2 0 (upI (t.2 0) (16 + q) c)) 0 i = upI (t.2 0) (16 + q) c i := fun i => by rw [upN_0]
  have vin : tIn (t.1, upN t.2 0 (upI (t.2 0) (16 + q) c)) := by
    intro i hi
    dsimp only
    rw [v0]
    by_cases e : i = 16 + q
    · rw [e, upI_eq]; omega
    · rw [far i e]; exact ht.1.1 i hi
  have vok : tOK (t.1, upN t.2 0 (upI (t.2 0) (16 + q) c)) := by
    obtain ⟨k1, k2, k3, k4, k5, k6⟩ := hok
    refine ⟨vin, ?_, ?_, ?_, ?_, fun p' a d => ?_⟩
    · dsimp only; rw [v0, far 0 (by omega)]; exact k2
    · dsimp only; rw [v0, far 1 (by omega)]; exact k3
    · dsimp only; rw [v0, far 2 (by omega)]; exact k4
    · dsimp only; rw [v0, far 3 (by omega)]; exact k5
    · dsimp only at d
      rw [v0, far 2 (by omega)] at d
      unfold ln
      dsimp only
      rw [v0, far _ (by omega)]
      exact k6 p' a d
  rw [x_hits vok hp (by dsimp only; rw [v0, far 2 (by omega)]; exact hp2)]
  simp (discharger := omega) only [hb_some, th_R0, th_S0, Option.bind_some, if_pos]
  have ek : kEq (kLt (kOf (t.2 0)) q c) (kOf (upI (t.2 0) (16 + q) c)) := by
    refine ⟨far 1 (by omega), far 0 (by omega), far 2 (by omega), kMl_eq (far 3 (by omega)) (fun i hi => far i (by omega)), fun j a d => ?_, fun p' a d => ?_, fun p' j a d x y => ?_, fun a d x => far _ (by omega)⟩
    · have d : j < t.2 0 1 := d
      show upI (t.2 0) (16 + q) c (16 + j) = upI (fun k => t.2 0 (16 + k)) q c j
      by_cases e : j = q
      · rw [e, upI_eq, upI_eq]
      · rw [upI_ne e, upI_ne (by omega)]
    · have d : p' < t.2 0 2 := d
      exact far _ (by omega)
    · have d : p' < t.2 0 2 := d
      exact far _ (by omega)
  have e1 : hits (t.1, upN t.2 0 (upI (t.2 0) (16 + q) c)) p = kHits (kLt (kOf (t.2 0)) q c) p := by
    rw [kOf_hits]
    dsimp only
    rw [upN_0]
    exact kHits_eq ek hp hp2
  rw [e1]
  congr 2
  show TH b (t.1, _) h = TH b t h
  rw [upN_0, upI_back, upN_back]
def oHitsIf (K : SK) (p q c : Int) : Int × Int := if (0 ≤ p ∧ p < kp K) ∧ 0 ≤ q ∧ q < kn K then (if 0 ≤ c ∧ c ≤ 25 then (kHits (kLt K q c) p, 0) else (0, 2)) else (0, 1)
theorem o_hitsIf {b : Nat} {t : TS} {h : HP} {p q c : Int} (ht : tGo t) (hp : inR p) (hq : inR q) (hc : inR c) : ∃ t', f_X9_hitsIf b p q c (TH b t h) = some ((oHitsIf (kOf (t.2 0)) p q c).1, TH b t' h) ∧ tOb t t' (oHitsIf (kOf (t.2 0)) p q c).2 := by
  have e : (upN t.1 7 0, t.2) = thr t 0 := rfl
  have hg := tGo_thr (k := 0) ht
  have hok := tPl hg
  have ep : kp (kOf (t.2 0)) = t.2 0 2 := rfl
  have en : kn (kOf (t.2 0)) = t.2 0 1 := rfl
  unfold f_X9_hitsIf oHitsIf b_X9_hitsIf_23 b_X9_hitsIf_34
  simp only [th_W7, th_rcv, Option.bind_some]
  rw [e, x_noThere hok hp hq thr_7]
  simp only [hb_some, iEQ_bZ, thr_2, ep, en]
  by_cases g : (0 ≤ p ∧ p < t.2 0 2) ∧ 0 ≤ q ∧ q < t.2 0 1
  · simp only [g, and_self, decide_true, Bool.not_true, Bool.false_eq_true, if_false, if_true, th_rcv, Option.bind_some]
    rw [x_noLetter hc (by omega) (by omega) thr_7]
    simp only [hb_some, iEQ_bZ]
    by_cases g2 : 0 ≤ c ∧ c ≤ 25
    · simp only [g2, and_self, decide_true, Bool.not_true, Bool.false_eq_true, if_false, if_true, th_rcv, Option.bind_some]
      rw [x_hitsWith hg g.1.1 g.1.2 g.2.1 g.2.2 g2.1 (by omega)]
      exact ⟨_, rfl, tOb_thr t 0⟩
    · simp only [g2, decide_false, Bool.not_false, if_true, if_false]
      rw [thr_thr]
      exact ⟨_, rfl, tOb_thr t 2⟩
  · simp only [g, decide_false, Bool.not_false, if_true, if_false]
    rw [thr_thr]
    exact ⟨_, rfl, tOb_thr t 1⟩
