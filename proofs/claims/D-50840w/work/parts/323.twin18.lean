/-! STAGE 2u: the reference: questions of patterns at places. -/
set_option maxRecDepth 100000
theorem x_noThere {b : Nat} {t : TS} {h : HP} {p q : Int} (ht : tOK t) (hp : inR p) (hq : inR q) (h0 : t.1 7 = 0) : f_X9_noThere b p q (TH b t h) = some (bZ (!decide ((0 ≤ p ∧ p < t.2 0 2) ∧ 0 ≤ q ∧ q < t.2 0 1)), TH b (if (0 ≤ p ∧ p < t.2 0 2) ∧ 0 ≤ q ∧ q < t.2 0 1 then t else thr t 1) h) := by
  unfold f_X9_noThere b_X9_noThere_16 b_X9_noThere_21
  simp only [th_rcv, Option.bind_some]
  rw [x_noPattern ht hp h0]
  simp only [hb_some, iEQ_bZ]
  by_cases g1 : 0 ≤ p ∧ p < t.2 0 2
  · simp only [g1, and_self, decide_true, Bool.not_true, Bool.false_eq_true, if_false, if_true, th_rcv, Option.bind_some, true_and]
    rw [x_noPlace ht hq h0]
    simp only [hb_some, iEQ_bZ]
    by_cases g2 : 0 ≤ q ∧ q < t.2 0 1
    · simp [g2, rtZ, bZ]
    · simp only [g2, decide_false, Bool.not_false, if_true, if_false]
      rfl
  · simp only [g1, decide_false, Bool.not_false, if_true, if_false, false_and]
    rfl
theorem kOf_mt {t : TS} {p q : Int} : mt t p q = kMt (kOf (t.2 0)) p q := by
  unfold mt kMt
  rw [kOf_tx]; rfl
/-- what is asked of a pattern and a place: z, where both are there -/
def oV (K : SK) (p q z : Int) : Int × Int := if (0 ≤ p ∧ p < kp K) ∧ 0 ≤ q ∧ q < kn K then (z, 0) else (0, 1)
theorem o_isAt {b : Nat} {t : TS} {h : HP} {p q : Int} (ht : tGo t) (hp : inR p) (hq : inR q) : ∃ t', f_X9_isAt b p q (TH b t h) = some ((oV (kOf (t.2 0)) p q (bZ (kTh (kOf (t.2 0)) p q))).1, TH b t' h) ∧ tOb t t' (oV (kOf (t.2 0)) p q (bZ (kTh (kOf (t.2 0)) p q))).2 := by
  have e : (upN t.1 7 0, t.2) = thr t 0 := rfl
  have hok := tPl (tGo_thr (k := 0) ht)
  have ep : kp (kOf (t.2 0)) = t.2 0 2 := rfl
  have en : kn (kOf (t.2 0)) = t.2 0 1 := rfl
  have h1 := kOK_n ht.1.2
  rw [en] at h1
  unfold f_X9_isAt oV b_X9_isAt_27 b_X9_isAt_28
  simp only [th_W7, th_rcv, Option.bind_some]
  rw [e, x_noThere hok hp hq thr_7]
  simp only [hb_some, iEQ_bZ, thr_2, ep, en]
  by_cases g : (0 ≤ p ∧ p < t.2 0 2) ∧ 0 ≤ q ∧ q < t.2 0 1
  · simp only [g, and_self, decide_true, Bool.not_true, Bool.false_eq_true, if_false, if_true, th_rcv, Option.bind_some]
    rw [x_isThere hok g.1.1 g.1.2 g.2.1 (by omega)]
    simp only [hb_some, iEQ_bZ]
    rw [kOf_there, thr_2]
    by_cases g2 : kTh (kOf (t.2 0)) p q = true
    · rw [if_pos g2, g2]; exact ⟨_, rfl, tOb_thr t 0⟩
    · rw [if_neg g2, Bool.eq_false_iff.mpr g2]; exact ⟨_, rfl, tOb_thr t 0⟩
  · simp only [g, decide_false, Bool.not_false, if_true, if_false]
    rw [thr_thr]
    exact ⟨_, rfl, tOb_thr t 1⟩
theorem o_longest {b : Nat} {t : TS} {h : HP} {p q : Int} (ht : tGo t) (hp : inR p) (hq : inR q) : ∃ t', f_X9_longest b p q (TH b t h) = some ((oV (kOf (t.2 0)) p q (kMt (kOf (t.2 0)) p q)).1, TH b t' h) ∧ tOb t t' (oV (kOf (t.2 0)) p q (kMt (kOf (t.2 0)) p q)).2 := by
  have e : (upN t.1 7 0, t.2) = thr t 0 := rfl
  have hok := tPl (tGo_thr (k := 0) ht)
  have ep : kp (kOf (t.2 0)) = t.2 0 2 := rfl
  have en : kn (kOf (t.2 0)) = t.2 0 1 := rfl
  unfold f_X9_longest oV b_X9_longest_24
  simp only [th_W7, th_rcv, Option.bind_some]
  rw [e, x_noThere hok hp hq thr_7]
  simp only [hb_some, iEQ_bZ, thr_2, ep, en]
  by_cases g : (0 ≤ p ∧ p < t.2 0 2) ∧ 0 ≤ q ∧ q < t.2 0 1
  · simp only [g, and_self, decide_true, Bool.not_true, Bool.false_eq_true, if_false, if_true, th_rcv, Option.bind_some]
    rw [x_matched hok g.1.1 g.1.2 g.2.1 (by have := g.2.2; rw [thr_2]; omega)]
    simp only [hb_some]
    rw [kOf_mt, thr_2]
    exact ⟨_, rfl, tOb_thr t 0⟩
  · simp only [g, decide_false, Bool.not_false, if_true, if_false]
    rw [thr_thr]
    exact ⟨_, rfl, tOb_thr t 1⟩
def kWhy (K : SK) (p q : Int) : Int := if kMt K p q = kl K p then 0 else if q + kMt K p q = kn K then 1 else if sg (kr K p) (kf K) (kMt K p q) < 0 then 2 else if 0 ≤ sg (kw K q) (kf K) (kMt K p q) then (if sg (kr K p) (kf K) (kMt K p q) = 0 then 3 else if sg (kw K q) (kf K) (kMt K p q) = 0 then 4 else 5) else 2
theorem o_why {b : Nat} {t : TS} {h : HP} {p q : Int} (ht : tGo t) (hp : inR p) (hq : inR q) : ∃ t', f_X9_why b p q (TH b t h) = some ((oV (kOf (t.2 0)) p q (kWhy (kOf (t.2 0)) p q)).1, TH b t' h) ∧ tOb t t' (oV (kOf (t.2 0)) p q (kWhy (kOf (t.2 0)) p q)).2 := by
  have e : (upN t.1 7 0, t.2) = thr t 0 := rfl
  have hg := tGo_thr (k := 0) ht
  have hok := tPl hg
  have ep : kp (kOf (t.2 0)) = t.2 0 2 := rfl
  have en : kn (kOf (t.2 0)) = t.2 0 1 := rfl
  have h1 := kOK_n ht.1.2
  rw [en] at h1
  unfold f_X9_why oV b_X9_why_81 b_X9_why_102
  simp only [th_W7, th_rcv, Option.bind_some]
  rw [e, x_noThere hok hp hq thr_7]
  simp only [hb_some, iEQ_bZ, thr_2, ep, en]
  by_cases g : (0 ≤ p ∧ p < t.2 0 2) ∧ 0 ≤ q ∧ q < t.2 0 1
  · have hln := hok.2.2.2.2.2 p g.1.1 g.1.2
    have hml := mt_le (q := q) hok g.1.1 g.1.2 (by have := g.2.2; rw [thr_2]; omega)
    have em : mt (thr t 0) p q = kMt (kOf (t.2 0)) p q := by rw [kOf_mt, thr_2]
    have el : t.2 0 (216 + 30 * p + 0) = kl (kOf (t.2 0)) p := by rw [Int.add_zero]; rfl
    have eln : ln (thr t 0) p = kl (kOf (t.2 0)) p := rfl
    have h2 := ht.1.2.2.2.1
    rw [ep] at h2
    rw [em, eln, thr_2] at hml
    rw [eln] at hln
    simp only [g, and_self, decide_true, Bool.not_true, Bool.false_eq_true, if_false, if_true, th_rcv, Option.bind_some]
    rw [x_matched hok g.1.1 g.1.2 g.2.1 (by have := g.2.2; rw [thr_2]; omega), em]
    simp only [hb_some, th_rcv, Option.bind_some]
    rw [x_of g.1.1 (by omega) (by omega) (by omega), thr_2, el]
    unfold kWhy
    simp only [hb_some]
    rw [iEQ_in (by omega) (by omega)]
    by_cases g1 : kMt (kOf (t.2 0)) p q = kl (kOf (t.2 0)) p
    · rw [if_pos g1, if_pos g1]; exact ⟨_, rfl, tOb_thr t 0⟩
    · rw [if_neg g1, if_neg g1]
      simp (discharger := omega) only [th_R0, th_A0, Option.bind_some, thr_2, if_pos]
      rw [iEQ_in (by omega) (by omega), en]
      by_cases g2 : q + kMt (kOf (t.2 0)) p q = t.2 0 1
      · rw [if_pos g2, if_pos g2]; exact ⟨_, rfl, tOb_thr t 0⟩
      · rw [if_neg g2, if_neg g2]
        unfold f_X9_patternFrom f_X9_textFrom
        simp only [hb_some, th_rcv, Option.bind_some]
        rw [x_signOf hg.1.1 (by omega) hml.1 (by omega)]
        simp only [hb_some, th_rcv, Option.bind_some]
        rw [x_signOf hg.1.1 (by omega) hml.1 (by omega)]
        simp only [hb_some, thr_2]
        have er : (fun j => t.2 0 (216 + 30 * p + 10 + j)) = kr (kOf (t.2 0)) p := rfl
        have ew : (fun j => t.2 0 (16 + q + j)) = kw (kOf (t.2 0)) q := by rw [← kOf_tx]; rfl
        have ef : t.2 0 0 = kf (kOf (t.2 0)) := rfl
        rw [er, ew, ef]
        have i1 : inR (sg (kr (kOf (t.2 0)) p) (kf (kOf (t.2 0))) (kMt (kOf (t.2 0)) p q)) := sg_in (by
          have := ht.1.2.2.2.2.2.2.2.1 p (kMt (kOf (t.2 0)) p q) g.1.1 g.1.2 hml.1 (by omega)
          omega) hml.1 (by omega)
        have i2 : inR (sg (kw (kOf (t.2 0)) q) (kf (kOf (t.2 0))) (kMt (kOf (t.2 0)) p q)) := sg_in (by
          have := ht.1.2.2.2.2.2.1 (q + kMt (kOf (t.2 0)) p q) (by omega) (by rw [en]; omega)
          unfold kw
          omega) hml.1 (by omega)
        rw [iLT_in i1 (by omega), iLE_in (by omega) i2, iEQ_in i1 (by omega), iEQ_in i2 (by omega)]
        by_cases a1 : sg (kr (kOf (t.2 0)) p) (kf (kOf (t.2 0))) (kMt (kOf (t.2 0)) p q) < 0
        · rw [if_pos a1, if_pos a1]; exact ⟨_, rfl, tOb_thr t 0⟩
        · rw [if_neg a1, if_neg a1]
          by_cases a2 : 0 ≤ sg (kw (kOf (t.2 0)) q) (kf (kOf (t.2 0))) (kMt (kOf (t.2 0)) p q)
          · rw [if_pos a2, if_pos a2]
            by_cases a3 : sg (kr (kOf (t.2 0)) p) (kf (kOf (t.2 0))) (kMt (kOf (t.2 0)) p q) = 0
            · rw [if_pos a3, if_pos a3]; exact ⟨_, rfl, tOb_thr t 0⟩
            · rw [if_neg a3, if_neg a3]
              by_cases a4 : sg (kw (kOf (t.2 0)) q) (kf (kOf (t.2 0))) (kMt (kOf (t.2 0)) p q) = 0
              · rw [if_pos a4, if_pos a4]; exact ⟨_, rfl, tOb_thr t 0⟩
              · rw [if_neg a4, if_neg a4]; exact ⟨_, rfl, tOb_thr t 0⟩
          · rw [if_neg a2, if_neg a2]; exact ⟨_, rfl, tOb_thr t 0⟩
  · simp only [g, decide_false, Bool.not_false, if_true, if_false]
    rw [thr_thr]
    exact ⟨_, rfl, tOb_thr t 1⟩
def oNth (K : SK) (p k : Int) (is : Bool) : Int × Int := if 0 ≤ p ∧ p < kp K then (nth (fun q => if is = true then kTh K p q else kOcc K p q) k (kn K), 0) else (0, 1)
theorem o_hit {b : Nat} {t : TS} {h : HP} {p k : Int} (ht : tGo t) (hp : inR p) (hk : inR k) : ∃ t', f_X9_hit b p k (TH b t h) = some ((oNth (kOf (t.2 0)) p k true).1, TH b t' h) ∧ tOb t t' (oNth (kOf (t.2 0)) p k true).2 := by
  have e : (upN t.1 7 0, t.2) = thr t 0 := rfl
  have hg := tGo_thr (k := 0) ht
  have hok := tPl hg
  have ep : kp (kOf (t.2 0)) = t.2 0 2 := rfl
  unfold f_X9_hit oNth b_X9_hit_24
  simp only [th_W7, th_rcv, Option.bind_some]
  rw [e, x_noPattern hok hp thr_7]
  simp only [hb_some, iEQ_bZ, thr_2, ep]
  by_cases g : 0 ≤ p ∧ p < t.2 0 2
  · obtain ⟨u, p1, p2⟩ := x_nth (b := b) (h := h) (is := true) hok hg.1.lt g.1 g.2 hk
    simp only [bZ, if_true] at p1
    simp only [g, and_self, decide_true, Bool.not_true, Bool.false_eq_true, if_false, if_true, th_rcv, Option.bind_some, p1, hb_some]
    exact ⟨u, by simp only [kOf_there, thr_2]; rfl, tOb_sc 0 p2⟩
  · simp only [g, decide_false, Bool.not_false, if_true, if_false]
    rw [thr_thr]
    exact ⟨_, rfl, tOb_thr t 1⟩
theorem o_candidate {b : Nat} {t : TS} {h : HP} {p k : Int} (ht : tGo t) (hp : inR p) (hk : inR k) : ∃ t', f_X9_candidate b p k (TH b t h) = some ((oNth (kOf (t.2 0)) p k false).1, TH b t' h) ∧ tOb t t' (oNth (kOf (t.2 0)) p k false).2 := by
  have e : (upN t.1 7 0, t.2) = thr t 0 := rfl
  have hg := tGo_thr (k := 0) ht
  have hok := tPl hg
  have ep : kp (kOf (t.2 0)) = t.2 0 2 := rfl
  unfold f_X9_candidate oNth b_X9_candidate_24
  simp only [th_W7, th_rcv, Option.bind_some]
  rw [e, x_noPattern hok hp thr_7]
  simp only [hb_some, iEQ_bZ, thr_2, ep]
  by_cases g : 0 ≤ p ∧ p < t.2 0 2
  · obtain ⟨u, p1, p2⟩ := x_nth (b := b) (h := h) (is := false) hok hg.1.lt g.1 g.2 hk
    simp only [bZ, Bool.false_eq_true, if_false] at p1
    simp only [g, and_self, decide_true, Bool.not_true, Bool.false_eq_true, if_false, if_true, th_rcv, Option.bind_some, p1, hb_some]
    exact ⟨u, by simp only [kOf_cnd, thr_2]; rfl, tOb_sc 0 p2⟩
  · simp only [g, decide_false, Bool.not_false, if_true, if_false]
    rw [thr_thr]
    exact ⟨_, rfl, tOb_thr t 1⟩
