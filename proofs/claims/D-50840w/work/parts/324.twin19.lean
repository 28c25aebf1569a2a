/-! STAGE 2v: the reference: borders, marks, names, windows. -/
set_option maxRecDepth 100000
def oBorder (K : SK) (p m : Int) : Int × Int := if 0 ≤ p ∧ p < kp K then (if 1 ≤ m ∧ m ≤ kl K p then (bd (kr K p) (kf K) m (m - 1).toNat, 0) else (0, 2)) else (0, 1)
theorem o_border {b : Nat} {t : TS} {h : HP} {p m : Int} (ht : tGo t) (hp : inR p) (hm : inR m) : ∃ t', f_X9_border b p m (TH b t h) = some ((oBorder (kOf (t.2 0)) p m).1, TH b t' h) ∧ tOb t t' (oBorder (kOf (t.2 0)) p m).2 := by
  have e : (upN t.1 7 0, t.2) = thr t 0 := rfl
  have hg := tGo_thr (k := 0) ht
  have hok := tPl hg
  have ep : kp (kOf (t.2 0)) = t.2 0 2 := rfl
  obtain ⟨f1, f0⟩ := x_failsP (b := b) (t := thr t 0) (h := h) (k := 2) (by omega) (by omega) thr_7
  unfold f_X9_border oBorder
  simp only [th_W7, th_rcv, Option.bind_some]
  rw [e, x_noPattern hok hp thr_7]
  simp only [hb_some, iEQ_bZ, thr_2, ep]
  by_cases g1 : 0 ≤ p ∧ p < t.2 0 2
  · have hln := hok.2.2.2.2.2 p g1.1 g1.2
    have h2 := ht.1.2.2.2.1
    rw [ep] at h2
    have el : t.2 0 (216 + 30 * p + 0) = kl (kOf (t.2 0)) p := by rw [Int.add_zero]; rfl
    have eln : ln (thr t 0) p = kl (kOf (t.2 0)) p := rfl
    rw [eln] at hln
    simp only [g1, and_self, decide_true, Bool.not_true, Bool.false_eq_true, if_false, if_true, th_rcv, Option.bind_some]
    rw [x_of g1.1 (by omega) (by omega) (by omega), thr_2, el]
    simp only [hb_some]
    rw [x_in hm (by omega) (by omega)]
    simp only [hb_some, iEQ_bZ]
    unfold b_X9_border_33 b_X9_border_40 b_X9_border_53
    by_cases g2 : 1 ≤ m ∧ m ≤ kl (kOf (t.2 0)) p
    · simp only [g2, and_self, decide_true, if_true, th_rcv, Option.bind_some, f0, hb_some, i00]
      unfold f_X9_patternFrom
      simp only [hb_some, th_rcv, Option.bind_some]
      rw [x_borderOf hg.1.1 (by omega) g2.1 (by omega)]
      exact ⟨_, rfl, tOb_thr t 0⟩
    · simp only [g2, decide_false, Bool.false_eq_true, if_false, th_rcv, Option.bind_some, f1, hb_some, i10]
      rw [thr_thr]
      exact ⟨_, rfl, tOb_thr t 2⟩
  · simp only [g1, decide_false, Bool.not_false, if_true, if_false]
    unfold b_X9_border_40 b_X9_border_53
    rw [thr_thr]
    exact ⟨_, rfl, tOb_thr t 1⟩
def oMarkAt (K : SK) (k : Int) : Int × Int := if 0 ≤ k ∧ k < ((km K).length : Int) then (10 * ((km K).getD k.toNat (0, 0)).2 + ((km K).getD k.toNat (0, 0)).1, 0) else (0, 1)
theorem o_markAt {b : Nat} {t : TS} {h : HP} {k : Int} (ht : tGo t) (hk : inR k) : ∃ t', f_X9_markAt b k (TH b t h) = some ((oMarkAt (kOf (t.2 0)) k).1, TH b t' h) ∧ tOb t t' (oMarkAt (kOf (t.2 0)) k).2 := by
  have e : (upN t.1 7 0, t.2) = thr t 0 := rfl
  have hg := tGo_thr (k := 0) ht
  have hok := tPl hg
  have hl : ((km (kOf (t.2 0))).length : Int) = t.2 0 3 := kOf_len ht.2
  have h60 : 0 ≤ t.2 0 3 ∧ t.2 0 3 ≤ 60 := hok.2.2.2.2.1
  obtain ⟨f1, f0⟩ := x_failsP (b := b) (t := thr t 0) (h := h) (k := 1) (by omega) (by omega) thr_7
  unfold f_X9_markAt oMarkAt
  simp (discharger := omega) only [th_W7, th_R0, th_A0, Option.bind_some, if_pos]
  rw [e, x_in hk (by omega) (by omega)]
  simp only [hb_some, iEQ_bZ]
  have e2 : (0 ≤ k ∧ k ≤ t.2 0 3 - 1) ↔ (0 ≤ k ∧ k < t.2 0 3) := by omega
  simp only [e2, hl]
  unfold b_X9_markAt_27 b_X9_markAt_52
  by_cases g : 0 ≤ k ∧ k < t.2 0 3
  · simp only [g, and_self, decide_true, if_true, th_rcv, Option.bind_some, f0, hb_some, i00]
    rw [x_markPlace (by omega) (by omega)]
    simp only [hb_some, th_rcv, Option.bind_some]
    rw [x_markPattern (by omega) (by omega)]
    obtain ⟨n, rfl⟩ : ∃ n : Nat, k = n := ⟨k.toNat, by omega⟩
    have hm := ml_at (t := t) (i := n) (by omega)
    have em : (km (kOf (t.2 0))).getD (n : Int).toNat (0, 0) = (t.2 0 (456 + 2 * (n : Int) + 1), t.2 0 (456 + 2 * (n : Int))) := by
      rw [List.getD_eq_getElem?_getD]
      show ((ml t)[n]?).getD (0, 0) = _
      rw [hm]; rfl
    rw [em]
    exact ⟨_, rfl, tOb_thr t 0⟩
  · simp only [g, decide_false, Bool.false_eq_true, if_false, th_rcv, Option.bind_some, f1, hb_some, i10]
    rw [thr_thr]
    exact ⟨_, rfl, tOb_thr t 1⟩
/-- names of patterns in the reference's row -/
def nOK (w : Int → Int) : Prop := ∀ p, 0 ≤ p → p < w 2 → 1 ≤ w (216 + 30 * p + 1) ∧ w (216 + 30 * p + 1) ≤ 8
def oLetter (w : Int → Int) (p k : Int) : Int × Int := if 0 ≤ p ∧ p < w 2 then (if 0 ≤ k ∧ k < w (216 + 30 * p + 1) then w (216 + 30 * p + (2 + k)) else -1, 0) else (0, 1)
theorem o_letter {b : Nat} {t : TS} {h : HP} {p k : Int} (ht : tGo t) (hn : nOK (t.2 0)) (hp : inR p) (hk : inR k) : ∃ t', f_X9_letter b p k (TH b t h) = some ((oLetter (t.2 0) p k).1, TH b t' h) ∧ tOb t t' (oLetter (t.2 0) p k).2 := by
  have e : (upN t.1 7 0, t.2) = thr t 0 := rfl
  have hg := tGo_thr (k := 0) ht
  have hok := tPl hg
  have ep : kp (kOf (t.2 0)) = t.2 0 2 := rfl
  unfold f_X9_letter oLetter b_X9_letter_43
  simp only [th_W7, th_rcv, Option.bind_some]
  rw [e, x_noPattern hok hp thr_7]
  simp only [hb_some, iEQ_bZ, thr_2]
  by_cases g1 : 0 ≤ p ∧ p < t.2 0 2
  · have h8 := hn p g1.1 g1.2
    have h2 := ht.1.2.2.2.1
    rw [ep] at h2
    simp only [g1, and_self, decide_true, Bool.not_true, Bool.false_eq_true, if_false, if_true, th_rcv, Option.bind_some]
    rw [x_of g1.1 (by omega) (by omega) (by omega), thr_2]
    simp only [hb_some]
    rw [x_in hk (by omega) (by omega)]
    simp only [hb_some, iEQ_bZ]
    have e2 : (0 ≤ k ∧ k ≤ t.2 0 (216 + 30 * p + 1) - 1) ↔ (0 ≤ k ∧ k < t.2 0 (216 + 30 * p + 1)) := by omega
    simp only [e2]
    by_cases g2 : 0 ≤ k ∧ k < t.2 0 (216 + 30 * p + 1)
    · simp only [g2, and_self, decide_true, if_true, th_rcv, Option.bind_some]
      rw [x_of g1.1 (by omega) (by omega) (by omega), thr_2]
      exact ⟨_, rfl, tOb_thr t 0⟩
    · simp only [g2, decide_false, Bool.false_eq_true, if_false]
      exact ⟨_, rfl, tOb_thr t 0⟩
  · simp only [g1, decide_false, Bool.not_false, if_true, if_false]
    rw [thr_thr]
    exact ⟨_, rfl, tOb_thr t 1⟩
def kAl (K : SK) (q r m : Int) : Bool := decide (al (kw K q) (kw K r) (kf K) m = m)
def oAlike (K : SK) (q r m : Int) : Int × Int := if (0 ≤ q ∧ q < kn K) ∧ 0 ≤ r ∧ r < kn K then (if (1 ≤ m ∧ m ≤ 200) ∧ max q r + m ≤ kn K then (bZ (kAl K q r m), 0) else (0, 2)) else (0, 1)
theorem o_alike {b : Nat} {t : TS} {h : HP} {q r m : Int} (ht : tGo t) (hq : inR q) (hr : inR r) (hm : inR m) : ∃ t', f_X9_alike b q r m (TH b t h) = some ((oAlike (kOf (t.2 0)) q r m).1, TH b t' h) ∧ tOb t t' (oAlike (kOf (t.2 0)) q r m).2 := by
  have e : (upN t.1 7 0, t.2) = thr t 0 := rfl
  have hg := tGo_thr (k := 0) ht
  have hok := tPl hg
  have en : kn (kOf (t.2 0)) = t.2 0 1 := rfl
  have h1 := kOK_n ht.1.2
  rw [en] at h1
  obtain ⟨f1, f0⟩ := x_failsP (b := b) (t := thr t 0) (h := h) (k := 2) (by omega) (by omega) thr_7
  have bad : b_X9_alike_49 (some b) q r m (some b) (TH b (thr t 0) h) = some (0, TH b (thr t 2) h) := by
    unfold b_X9_alike_49 b_X9_alike_54 b_X9_alike_61
    simp only [th_rcv, Option.bind_some, f1, hb_some, i10]
    rw [thr_thr]
  unfold f_X9_alike oAlike
  simp only [th_W7, th_rcv, Option.bind_some]
  rw [e, x_noPlace hok hq thr_7]
  simp only [hb_some, iEQ_bZ, thr_2, en]
  by_cases g1 : 0 ≤ q ∧ q < t.2 0 1
  · simp only [g1, and_self, decide_true, Bool.not_true, Bool.false_eq_true, if_false, if_true, th_rcv, Option.bind_some, true_and]
    rw [x_noPlace hok hr thr_7]
    simp only [hb_some, iEQ_bZ, thr_2]
    by_cases g2 : 0 ≤ r ∧ r < t.2 0 1
    · simp only [g2, and_self, decide_true, Bool.not_true, Bool.false_eq_true, if_false, if_true]
      rw [x_in hm (by omega) (by omega)]
      simp only [hb_some, iEQ_bZ]
      by_cases g3 : 1 ≤ m ∧ m ≤ 200
      · simp only [g3, and_self, decide_true, if_true, true_and]
        rw [x_max hq hr]
        simp (discharger := omega) only [hb_some, th_R0, th_A0, Option.bind_some, if_pos, thr_2]
        rw [iLE_in (by omega) (by omega)]
        by_cases g4 : max q r + m ≤ t.2 0 1
        · rw [if_pos g4, if_pos g4]
          unfold b_X9_alike_54 f_X9_textFrom
          simp only [th_rcv, Option.bind_some, f0, hb_some, i00]
          rw [x_areAlike hg.1.1 (by omega) (by omega) (by omega) (by omega) (by omega)]
          simp only [hb_some]
          rw [rtZ_in (bZ_01 _)]
          refine ⟨_, ?_, tOb_thr t 0⟩
          unfold kAl
          rw [← kOf_tx, ← kOf_tx]
          rfl
        · rw [if_neg g4, if_neg g4, bad]
          exact ⟨_, rfl, tOb_thr t 2⟩
      · simp only [g3, decide_false, Bool.false_eq_true, if_false, false_and]
        rw [bad]
        exact ⟨_, rfl, tOb_thr t 2⟩
    · simp only [g2, decide_false, Bool.not_false, if_true, if_false]
      unfold b_X9_alike_61
      rw [thr_thr]
      exact ⟨_, rfl, tOb_thr t 1⟩
  · simp only [g1, decide_false, Bool.not_false, if_true, if_false, false_and]
    unfold b_X9_alike_61
    rw [thr_thr]
    exact ⟨_, rfl, tOb_thr t 1⟩
