/-! STAGE 2y: the reference: saved states, wrong marks. -/
set_option maxRecDepth 100000
/-- row number j of what is saved -/
def krow (t : TS) (j : Int) : Int → Int := fun i => t.2 4 (576 * j + i)
theorem o_save {b : Nat} {t : TS} {h : HP} {s : Int} (ht : tGo t) (hs : inR s) : if 0 ≤ s ∧ s ≤ 1 then ∃ t', f_X9_save b s (TH b t h) = some (t.2 0 1, TH b t' h) ∧ t'.1 = (thr t 0).1 ∧ (∀ j, j ≠ 4 → j ≠ 5 → t'.2 j = t.2 j) ∧ t'.2 5 = upI (t.2 5) s 1 ∧ rEq (t.2 0) (krow t' s) ∧ rEq (krow t (1 - s)) (krow t' (1 - s)) else f_X9_save b s (TH b t h) = some (0, TH b (thr t 1) h) := by
  have e : (upN t.1 7 0, t.2) = thr t 0 := rfl
  unfold f_X9_save
  simp only [th_W7, th_rcv, Option.bind_some]
  rw [e, x_noSlot hs thr_7]
  simp only [hb_some, iEQ_bZ]
  by_cases g : 0 ≤ s ∧ s ≤ 1
  · obtain ⟨u, p1, p2, p3, p4⟩ := x_lays_0_4 (b := b) (t := thr t 0) (h := h) (at' := 0) (into := 576 * s) (by omega) (by omega) (by omega) (by omega)
    simp only [g, and_self, decide_true, Bool.not_true, Bool.false_eq_true, if_false, if_true]
    have u0 : u.2 0 = t.2 0 := p3 0 (by omega)
    have u5 : u.2 5 = t.2 5 := p3 5 (by omega)
    have n0 : ∀ f : Int → Int, upN u.2 5 f 0 = t.2 0 := fun f => by rw [upN_ne (by omega), u0]
    simp (discharger := omega) only [th_R0, th_R4, th_R5, Option.bind_some, p1, hb_some, astZ_in, th_S5, th_A0, if_pos, n0]
    refine ⟨_, rfl, p2, fun j a c => by dsimp only; rw [upN_ne c]; exact p3 j a, ?_, fun i a c => ?_, fun i a c => ?_⟩
    · dsimp only
      rw [u5]
      simp [upN]
    · unfold krow
      dsimp only
      rw [upN_ne (by omega), p4, if_pos (by omega), show 0 + (576 * s + i - 576 * s) = i by omega]
      rfl
    · unfold krow
      dsimp only
      rw [upN_ne (by omega), p4, if_neg (by omega)]
      rfl
  · simp only [g, decide_false, Bool.not_false, if_true, if_false]
    rw [thr_thr]
theorem o_restore {b : Nat} {t : TS} {h : HP} {s : Int} (hs : inR s) (h5 : ∀ j, 0 ≤ j → j < 2 → t.2 5 j = 0 ∨ t.2 5 j = 1) : if 0 ≤ s ∧ s ≤ 1 then (if t.2 5 s = 1 then ∃ t', f_X9_restore b s (TH b t h) = some (krow t s 1, TH b t' h) ∧ (∀ j, j ≠ 6 → t'.1 j = (thr t 0).1 j) ∧ t'.1 6 = 0 ∧ (∀ j, j ≠ 0 → t'.2 j = t.2 j) ∧ rEq (krow t s) (t'.2 0) else f_X9_restore b s (TH b t h) = some (0, TH b (thr t 2) h)) else f_X9_restore b s (TH b t h) = some (0, TH b (thr t 1) h) := by
  have e : (upN t.1 7 0, t.2) = thr t 0 := rfl
  obtain ⟨f1, f0⟩ := x_failsP (b := b) (t := thr t 0) (h := h) (k := 2) (by omega) (by omega) thr_7
  unfold f_X9_restore b_X9_restore_28 b_X9_restore_35
  simp only [th_W7, th_rcv, Option.bind_some]
  rw [e, x_noSlot hs thr_7]
  simp only [hb_some, iEQ_bZ]
  by_cases g : 0 ≤ s ∧ s ≤ 1
  · have hv := h5 s g.1 (by omega)
    simp only [g, and_self, decide_true, Bool.not_true, Bool.false_eq_true, if_false, if_true]
    simp (discharger := omega) only [th_R5, th_A5, Option.bind_some, if_pos, thr_2]
    by_cases g2 : t.2 5 s = 1
    · rw [if_pos g2, g2, i10]
      simp only [th_rcv, Option.bind_some, f0]
      obtain ⟨u, p1, p2, p3, p4⟩ := x_lays_4_0 (b := b) (t := thr t 0) (h := h) (at' := 576 * s) (into := 0) (by omega) (by omega) (by omega) (by omega)
      have hr : rEq (krow t s) (u.2 0) := fun i a c => by
        rw [p4, if_pos (by omega), show 576 * s + (i - 0) = 576 * s + i by omega]
        rfl
      simp (discharger := omega) only [hb_some, i00, th_R4, th_R0, Option.bind_some, p1, th_W6, th_A0, if_pos]
      refine ⟨(upN u.1 6 0, u.2), by rw [hr 1 (by omega) (by omega)], fun j hj => by dsimp only; rw [upN_ne hj, p2], by dsimp only; simp [upN], p3, hr⟩
    · have g3 : t.2 5 s = 0 := by omega
      rw [if_neg g2, g3, i00]
      simp only [th_rcv, Option.bind_some, f1, hb_some, i10]
      rw [thr_thr]
  · simp only [g, decide_false, Bool.not_false, if_true, if_false]
    rw [thr_thr]
/-- marks that are wrong -/
def kWrong (K : SK) : Int := cnt (fun k => !kTh K ((km K).getD k.toNat (0, 0)).1 ((km K).getD k.toNat (0, 0)).2) 0 (km K).length
theorem x_wrong {t : TS} {k : Nat} (ht : tGo t) (hk : (k : Int) < t.2 0 3) : (km (kOf (t.2 0))).getD k (0, 0) = (t.2 0 (456 + 2 * (k : Int) + 1), t.2 0 (456 + 2 * (k : Int))) ∧ (0 ≤ t.2 0 (456 + 2 * (k : Int) + 1) ∧ t.2 0 (456 + 2 * (k : Int) + 1) < t.2 0 2) ∧ 0 ≤ t.2 0 (456 + 2 * (k : Int)) ∧ t.2 0 (456 + 2 * (k : Int)) < 1000 := by
  have hm := ml_at (t := t) (i := k) hk
  refine ⟨?_, ht.1.mk _ (List.mem_of_getElem? hm)⟩
  rw [List.getD_eq_getElem?_getD]
  show ((ml t)[k]?).getD (0, 0) = _
  rw [hm]; rfl
theorem x_gap_l {b : Nat} {t : TS} {h : HP} {n : Int} (ht : tGo t) : b_X9_gap_41 (some b) n 0 (TH b t h) = some (n + kWrong (kOf (t.2 0)), TH b t h) := by
  have hok := tPl ht
  have hl : ((km (kOf (t.2 0))).length : Int) = t.2 0 3 := kOf_len ht.2
  have h60 : 0 ≤ t.2 0 3 ∧ t.2 0 3 ≤ 60 := hok.2.2.2.2.1
  unfold b_X9_gap_41
  have key := fx_FU (bot := fun (_ : Option Nat) (_ _ : Int) (_ : HP) => (none : Option (Int × HP))) (body := c_X9_gap_41)
    (fun F (s : Int × Nat) => F (some b) s.1 s.2 (TH b t h)) (fun s => (s.2 : Int) ≤ t.2 0 3) (fun s => (t.2 0 3 - s.2).toNat)
    (fun s v => v = some (s.1 + cnt (fun k => !kTh (kOf (t.2 0)) ((km (kOf (t.2 0))).getD k.toNat (0, 0)).1 ((km (kOf (t.2 0))).getD k.toNat (0, 0)).2) s.2 (t.2 0 3 - s.2).toNat, TH b t h)) ?_ (n, 0) (by dsimp only; omega) (by dsimp only; omega)
  · dsimp only at key
    unfold kWrong
    rw [show (km (kOf (t.2 0))).length = (t.2 0 3 - ((0 : Nat) : Int)).toNat by omega]
    exact key
  · rintro rec ⟨x, k⟩ h3 ih
    dsimp only at h3 ih ⊢
    have o1 := x_one (h := TH b t h) (z := true)
    have o0 := x_one (h := TH b t h) (z := false)
    simp only [bZ, if_true, Bool.false_eq_true, if_false] at o1 o0
    unfold c_X9_gap_41 b_X9_gap_74
    by_cases g : t.2 0 3 ≤ (k : Int)
    · simp (discharger := omega) only [th_R0, th_A0, Option.bind_some, if_pos, iLE_in]
      rw [show (t.2 0 3 - (k : Int)).toNat = 0 by omega]
      simp [cnt]
    · obtain ⟨q1, ⟨q2, q3⟩, q4, q5⟩ := x_wrong (k := k) ht (by omega)
      simp (discharger := omega) only [th_R0, th_A0, Option.bind_some, if_pos, if_neg, iLE_in, th_rcv, x_markPattern, x_markPlace, hb_some]
      rw [x_isThere hok q2 q3 q4 q5]
      simp only [hb_some, iEQ_bZ]
      rw [show (t.2 0 3 - (k : Int)).toNat = (t.2 0 3 - ((k + 1 : Nat) : Int)).toNat + 1 by omega]
      unfold cnt
      rw [Int.toNat_natCast, q1, kOf_there]
      by_cases g2 : kTh (kOf (t.2 0)) (t.2 0 (456 + 2 * (k : Int) + 1)) (t.2 0 (456 + 2 * (k : Int))) = true
      · rw [if_pos g2, o0]
        simp only [hb_some, g2, Bool.not_true, Bool.false_eq_true, if_false]
        have := ih (x + 0, k + 1) (by dsimp only; omega) (by dsimp only; omega)
        dsimp only at this
        rw [← Int.add_assoc]
        exact this
      · rw [if_neg g2, o1]
        simp only [hb_some, Bool.eq_false_iff.mpr g2, Bool.not_false, if_true]
        have := ih (x + 1, k + 1) (by dsimp only; omega) (by dsimp only; omega)
        dsimp only at this
        rw [← Int.add_assoc]
        exact this
