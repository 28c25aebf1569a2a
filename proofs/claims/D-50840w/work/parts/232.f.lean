/-! STAGE 1c: functions and contracts (printed by gen/mkfuncs.py). -/
set_option maxRecDepth 100000
set_option linter.unusedVariables false
-- X0_pattern RenamedWordsLaw.pattern(LRenamedWords;II[J)I
noncomputable def b_X0_pattern_17 (s0 : Option Nat) (h : HP) : Option ((Int) × HP) :=
  some (2, h)
theorem B_X0_pattern_17 {M : hp_M} {G : va_G} {h0 : HP} (X : hp_X M G h0 "RenamedWordsLaw" "pattern" cX0_pattern 5 (some .int) (tableOf [(0, 10, 13, 18), (0, 10, 17, 13)]) 10 306) (s0 : Option Nat) (h : HP) : vv M G h0 5 (hp_End M G h0) jI h 17 [] [LR s0] (b_X0_pattern_17 s0 h) := by
  unfold b_X0_pattern_17
  refine vv_astore (pc := 17) (lv' := [(4, LR s0)]) X (by decide) rfl dX0_pattern_17 ?_
  refine vv_iconst (pc := 19) X dX0_pattern_19 ?_
  exact vv_iretI X rfl rfl dX0_pattern_20
noncomputable def b_X0_pattern_13 (s0 : Option Nat) (h : HP) : Option ((Int) × HP) :=
  some (1, h)
theorem B_X0_pattern_13 {M : hp_M} {G : va_G} {h0 : HP} (X : hp_X M G h0 "RenamedWordsLaw" "pattern" cX0_pattern 5 (some .int) (tableOf [(0, 10, 13, 18), (0, 10, 17, 13)]) 10 306) (s0 : Option Nat) (h : HP) : vv M G h0 5 (hp_End M G h0) jI h 13 [] [LR s0] (b_X0_pattern_13 s0 h) := by
  unfold b_X0_pattern_13
  refine vv_astore (pc := 13) (lv' := [(4, LR s0)]) X (by decide) rfl dX0_pattern_13 ?_
  refine vv_iconst (pc := 15) X dX0_pattern_15 ?_
  exact vv_iretI X rfl rfl dX0_pattern_16
noncomputable def f_X0_pattern (a1 : Option Nat) (a2 : Int) (a3 : Int) (a4 : Option Nat) (h : HP) : Option ((Int) × HP) :=
  (rcv h a1 [0]).bind fun b3 =>
  hbx (f_X1_pattern b3 a2 a3 h) (fun q5 h6 =>
      (clsOf h6 q5).bind fun c7 =>
      if c7 = 35 then
        b_X0_pattern_13 (some q5) h6
      else
        if c7 = 36 then
          b_X0_pattern_17 (some q5) h6
        else
          none) fun v1 h2 =>
  (astJ h2 a4 0 (iL v1)).bind fun h8 =>
  some (0, h8)
theorem A_X0_pattern {M : hp_M} {G : va_G} {h0 : HP} (X : hp_X M G h0 "RenamedWordsLaw" "pattern" cX0_pattern 5 (some .int) (tableOf [(0, 10, 13, 18), (0, 10, 17, 13)]) 10 306) (a1 : Option Nat) (a2 : Int) (a3 : Int) (a4 : Option Nat) (h : HP) : vv M G h0 5 (hp_End M G h0) jI h 0 [(0, LR a1), (1, LI a2), (2, LI a3), (3, LR a4)] [] (f_X0_pattern a1 a2 a3 a4 h) := by
  unfold f_X0_pattern
  refine vv_aload_n (pc := 0) X (kf := 3) (i := 3) rfl 3 rfl dX0_pattern_0 ?_
  refine vv_iconst (pc := 1) X dX0_pattern_1 ?_
  refine vv_aload_n (pc := 2) X (kf := 0) (i := 0) rfl 0 rfl dX0_pattern_2 ?_
  refine vv_iload_n (pc := 3) X (kf := 1) (i := 1) rfl 1 rfl dX0_pattern_3 ?_
  refine vv_iload_n (pc := 4) X (kf := 2) (i := 2) rfl 2 rfl dX0_pattern_4 ?_
  refine vv_rcv (fun b3 t9 c9 fs9 e4 g9 k9 => ?_)
  cases List.mem_singleton.mp k9
  refine vv_xallI (pc := 5) (rest := [LI 0, LR a4]) (by rw [e4]; rfl) (fun r8 k8 e8 => zz_callV X (m_X1_pattern (hlM X) _ _ _ _ _ _ e8) g9 rfl rfl q3098 q3099 q3100 q132 q3101 nh_X1 rfl (by decide) (by decide) (Nat.le_of_ble_eq_true rfl) dX0_pattern_5) (fun v1 h2 => ?_) (fun q5 h6 => ?_)
  · refine vv_i2l (pc := 8) X dX0_pattern_8 ?_
    refine vv_lastore (pc := 9) X dX0_pattern_9 (fun h8 => ?_)
    refine vv_goto (pc := 10) (tgt := 21) X dX0_pattern_10 rfl ?_
    refine vv_iconst (pc := 21) X dX0_pattern_21 ?_
    exact vv_iretI X rfl rfl dX0_pattern_22
  · refine vvx_cls (fun _ c7 _ g9 => ?_)
    refine vvx_if (fun e9 => ?_) (fun _ => ?_)
    · subst e9
      refine vvx_catch X g9 rfl [] ⟨0, 10, 13, 18⟩ [⟨0, 10, 17, 13⟩] rfl (fun z hz => nomatch hz) rfl (by decide) q3041 q2274 ?_
      exact vv_sub [] (by rfl) (B_X0_pattern_13 X _ _)
    · refine vvx_if (fun e9 => ?_) (fun _ => ?_)
      · subst e9
        refine vvx_catch X g9 rfl [⟨0, 10, 13, 18⟩] ⟨0, 10, 17, 13⟩ [] rfl (fun z hz => by rcases List.mem_cons.mp hz with rfl | hz; exact Or.inr ⟨by decide, _, q3041, List.mem_of_getElem? (i := 0) rfl⟩; exact nomatch hz) rfl (by decide) q3013 q275 ?_
        exact vv_sub [] (by rfl) (B_X0_pattern_17 X _ _)
      · exact vvx_none
theorem m_X0_pattern {l : Launch} (hl : l.stackTraces = false) {G : va_G} (a1 : Option Nat) (a2 : Int) (a3 : Int) (a4 : Option Nat) (h : HP) : ∀ r hf, f_X0_pattern a1 a2 a3 a4 h = some (r, hf) → Ct l yX0_pattern (wsW_ yX0_pattern cX0_pattern 5 (some .int) [(0, 10, 13, 18), (0, 10, 17, 13)]) 10 306 G h [va_rf a1, .int (iI a2), .int (iI a3), va_rf a4] (jI r) hf :=
  zz_ofWH hl (by decide +kernel) (lv := [(0, LR a1), (1, LI a2), (2, LI a3), (3, LR a4)]) (by simp [lv_args, lvL, lvV, zz_rfc, zz_rfs, zz_ci, zz_cr, zz_cj, zz_cf, zz_cd]) (by simp [lg_sl, zz_rfc, zz_ci, zz_cr, zz_cj, zz_cf, zz_cd]) (fun _ X => A_X0_pattern X a1 a2 a3 a4 h)
-- X9_noPattern RenamedWordsModel.noPattern(I)Z
noncomputable def b_X9_noPattern_22 (s0 : Int) (s1 : Option Nat) (h : HP) : Option ((Int) × HP) :=
  (rcv h s1 [7]).bind fun b7 =>
  hb (f_X9_fails b7 s0 1 h) fun v5 h6 =>
  rtZ v5 (some (v5, h6))
theorem B_X9_noPattern_22 {M : hp_M} {G : va_G} {h0 : HP} (X : hp_X M G h0 "RenamedWordsModel" "noPattern" cX9_noPattern 2 (some .boolean) [] 1 30) (s0 : Int) (s1 : Option Nat) (h : HP) : vv M G h0 2 (hp_End M G h0) jI h 22 [] [LI s0, LR s1] (b_X9_noPattern_22 s0 s1 h) := by
  unfold b_X9_noPattern_22
  refine vv_iconst (pc := 22) X dX9_noPattern_22 ?_
  refine vv_rcv (fun b7 t9 c9 fs9 e8 g9 k9 => ?_)
  cases List.mem_singleton.mp k9
  refine vv_callI (pc := 23) (rest := []) (by rw [e8]; rfl) (fun r8 k8 e8 => zz_callV X (m_X9_fails (hlM X) _ _ _ _ _ _ e8) g9 rfl rfl q3841 q3843 qs109 q164 q3844 nh_X9 rfl (by decide) (by decide) (Nat.le_of_ble_eq_true rfl) dX9_noPattern_23) (fun v5 h6 => ?_)
  exact vv_iretZ X rfl rfl dX9_noPattern_26
noncomputable def f_X9_noPattern (a0 : Nat) (a1 : Int) (h : HP) : Option ((Int) × HP) :=
  (rdR h (some a0) [7] 0).bind fun v1 =>
  (aldI h .int v1 2).bind fun v2 =>
  hb (f_X9_in a1 0 (v2 - 1) h) fun v3 h4 =>
  iEQ v3 0
    (b_X9_noPattern_22 1 (some a0) h4)
    (b_X9_noPattern_22 0 (some a0) h4)
theorem A_X9_noPattern {M : hp_M} {G : va_G} {h0 : HP} (X : hp_X M G h0 "RenamedWordsModel" "noPattern" cX9_noPattern 2 (some .boolean) [] 1 30) (a0 : Nat) (a1 : Int) (h : HP) : vv M G h0 2 (hp_End M G h0) jI h 0 [(0, LR (some a0)), (1, LI a1)] [] (f_X9_noPattern a0 a1 h) := by
  unfold f_X9_noPattern
  refine vv_aload_n (pc := 0) X (kf := 0) (i := 0) rfl 0 rfl dX9_noPattern_0 ?_
  refine vv_iload_n (pc := 1) X (kf := 1) (i := 1) rfl 1 rfl dX9_noPattern_1 ?_
  refine vv_iconst (pc := 2) X dX9_noPattern_2 ?_
  refine vv_aload_n (pc := 3) X (kf := 0) (i := 0) rfl 0 rfl dX9_noPattern_3 ?_
  refine vv_getR (pc := 4) X (fun _ z => by cases List.mem_singleton.mp z; exact fl_X9_9_7) dX9_noPattern_4 (fun v1 => ?_)
  refine vv_iconst (pc := 7) X dX9_noPattern_7 ?_
  refine vv_iaload (pc := 8) X dX9_noPattern_8 (fun v2 => ?_)
  refine vv_iconst (pc := 9) X dX9_noPattern_9 ?_
  refine vv_isub (pc := 10) X dX9_noPattern_10 ?_
  refine vv_callI (pc := 11) (rest := [LR (some a0)]) (by rfl) (fun r8 k8 e8 => zz_callS X (m_X9_in (hlM X) _ _ _ _ _ _ e8) q3593 q3594 q164 q3595 nh_X9 rfl (by decide) (by decide) (Nat.le_of_ble_eq_true rfl) dX9_noPattern_11) (fun v3 h4 => ?_)
  refine vv_if_ne (pc := 14) (tgt := 21) X dX9_noPattern_14 rfl ?_ ?_
  · refine vv_iconst (pc := 21) X dX9_noPattern_21 ?_
    exact vv_sub [] (by rfl) (B_X9_noPattern_22 X _ _ _)
  · refine vv_iconst (pc := 17) X dX9_noPattern_17 ?_
    refine vv_goto (pc := 18) (tgt := 22) X dX9_noPattern_18 rfl ?_
    exact vv_sub [] (by rfl) (B_X9_noPattern_22 X _ _ _)
theorem m_X9_noPattern {l : Launch} (hl : l.stackTraces = false) {G : va_G} (a0 : Nat) (a1 : Int) (h : HP) : ∀ r hf, f_X9_noPattern a0 a1 h = some (r, hf) → Ct l yX9_noPattern (ws_ yX9_noPattern cX9_noPattern 2 (some .boolean)) 1 30 G h [.ref a0, .int (iI a1)] (jI r) hf :=
  zz_ofW hl (by decide +kernel) (lv := [(0, LR (some a0)), (1, LI a1)]) (by simp [lv_args, lvL, lvV, zz_rfc, zz_rfs, zz_ci, zz_cr, zz_cj, zz_cf, zz_cd]) (by simp [lg_sl, zz_rfc, zz_ci, zz_cr, zz_cj, zz_cf, zz_cd]) (fun _ X => A_X9_noPattern X a0 a1 h)
-- X9_areAlike RenamedWordsModel.areAlike(III)Z
noncomputable def b_X9_areAlike_16 (s0 : Int) (h : HP) : Option ((Int) × HP) :=
  rtZ s0 (some (s0, h))
theorem B_X9_areAlike_16 {M : hp_M} {G : va_G} {h0 : HP} (X : hp_X M G h0 "RenamedWordsModel" "areAlike" cX9_areAlike 4 (some .boolean) [] 4 123) (s0 : Int) (h : HP) : vv M G h0 4 (hp_End M G h0) jI h 16 [] [LI s0] (b_X9_areAlike_16 s0 h) := by
  unfold b_X9_areAlike_16
  exact vv_iretZ X rfl rfl dX9_areAlike_16
noncomputable def f_X9_areAlike (a0 : Nat) (a1 : Int) (a2 : Int) (a3 : Int) (h : HP) : Option ((Int) × HP) :=
  (rcv h (some a0) [7]).bind fun b3 =>
  hb (f_X9_alikeFrom b3 a1 a2 a3 h) fun v1 h2 =>
  iEQ v1 a3
    (b_X9_areAlike_16 1 h2)
    (b_X9_areAlike_16 0 h2)
theorem A_X9_areAlike {M : hp_M} {G : va_G} {h0 : HP} (X : hp_X M G h0 "RenamedWordsModel" "areAlike" cX9_areAlike 4 (some .boolean) [] 4 123) (a0 : Nat) (a1 : Int) (a2 : Int) (a3 : Int) (h : HP) : vv M G h0 4 (hp_End M G h0) jI h 0 [(0, LR (some a0)), (1, LI a1), (2, LI a2), (3, LI a3)] [] (f_X9_areAlike a0 a1 a2 a3 h) := by
  unfold f_X9_areAlike
  refine vv_aload_n (pc := 0) X (kf := 0) (i := 0) rfl 0 rfl dX9_areAlike_0 ?_
  refine vv_iload_n (pc := 1) X (kf := 1) (i := 1) rfl 1 rfl dX9_areAlike_1 ?_
  refine vv_iload_n (pc := 2) X (kf := 2) (i := 2) rfl 2 rfl dX9_areAlike_2 ?_
  refine vv_iload_n (pc := 3) X (kf := 3) (i := 3) rfl 3 rfl dX9_areAlike_3 ?_
  refine vv_rcv (fun b3 t9 c9 fs9 e4 g9 k9 => ?_)
  cases List.mem_singleton.mp k9
  refine vv_callI (pc := 4) (rest := []) (by rw [e4]; rfl) (fun r8 k8 e8 => zz_callV X (m_X9_alikeFrom (hlM X) _ _ _ _ _ _ _ e8) g9 rfl rfl q3781 q3783 qs95 q164 q3784 nh_X9 rfl (by decide) (by decide) (Nat.le_of_ble_eq_true rfl) dX9_areAlike_4) (fun v1 h2 => ?_)
  refine vv_iload_n (pc := 7) X (kf := 3) (i := 3) rfl 3 rfl dX9_areAlike_7 ?_
  refine vv_icmp_ne (pc := 8) (tgt := 15) X dX9_areAlike_8 rfl ?_ ?_
  · refine vv_iconst (pc := 15) X dX9_areAlike_15 ?_
    exact vv_sub [] (by rfl) (B_X9_areAlike_16 X _ _)
  · refine vv_iconst (pc := 11) X dX9_areAlike_11 ?_
    refine vv_goto (pc := 12) (tgt := 16) X dX9_areAlike_12 rfl ?_
    exact vv_sub [] (by rfl) (B_X9_areAlike_16 X _ _)
theorem m_X9_areAlike {l : Launch} (hl : l.stackTraces = false) {G : va_G} (a0 : Nat) (a1 : Int) (a2 : Int) (a3 : Int) (h : HP) : ∀ r hf, f_X9_areAlike a0 a1 a2 a3 h = some (r, hf) → Ct l yX9_areAlike (ws_ yX9_areAlike cX9_areAlike 4 (some .boolean)) 4 123 G h [.ref a0, .int (iI a1), .int (iI a2), .int (iI a3)] (jI r) hf :=
  zz_ofW hl (by decide +kernel) (lv := [(0, LR (some a0)), (1, LI a1), (2, LI a2), (3, LI a3)]) (by simp [lv_args, lvL, lvV, zz_rfc, zz_rfs, zz_ci, zz_cr, zz_cj, zz_cf, zz_cd]) (by simp [lg_sl, zz_rfc, zz_ci, zz_cr, zz_cj, zz_cf, zz_cd]) (fun _ X => A_X9_areAlike X a0 a1 a2 a3 h)
-- X9_borderOf RenamedWordsModel.borderOf(II)I
noncomputable def c_X9_borderOf_4 (r4 : Option Nat → Int → Int → Int → HP → Option ((Int) × HP)) (x0 : Option Nat) (x1 : Int) (x2 : Int) (x3 : Int) (h : HP) : Option ((Int) × HP) :=
  (rcv h x0 [7]).bind fun b3 =>
  hb (f_X9_areAlike b3 x1 ((x1 + x2) - x3) x3 h) fun v1 h2 =>
  iEQ v1 0
    (r4 x0 x1 x2 (x3 + (-1)) h2)
    (some (x3, h2))
noncomputable def b_X9_borderOf_4 : Option Nat → Int → Int → Int → HP → Option ((Int) × HP) := fx (fun _ _ _ _ _ => none) (c_X9_borderOf_4) FU
theorem C_X9_borderOf_4 {M : hp_M} {G : va_G} {h0 : HP} (X : hp_X M G h0 "RenamedWordsModel" "borderOf" cX9_borderOf 4 (some .int) [] 5 154) (r4 : Option Nat → Int → Int → Int → HP → Option ((Int) × HP)) (hr4 : ∀ (y0 : Option Nat) (y1 : Int) (y2 : Int) (y3 : Int) (h : HP), vv M G h0 4 (hp_End M G h0) jI h 4 [(0, LR y0), (1, LI y1), (2, LI y2), (3, LI y3)] [] (r4 y0 y1 y2 y3 h)) (x0 : Option Nat) (x1 : Int) (x2 : Int) (x3 : Int) (h : HP) : vv M G h0 4 (hp_End M G h0) jI h 4 [(0, LR x0), (1, LI x1), (2, LI x2), (3, LI x3)] [] (c_X9_borderOf_4 r4 x0 x1 x2 x3 h) := by
  unfold c_X9_borderOf_4
  refine vv_aload_n (pc := 4) X (kf := 0) (i := 0) rfl 0 rfl dX9_borderOf_4 ?_
  refine vv_iload_n (pc := 5) X (kf := 1) (i := 1) rfl 1 rfl dX9_borderOf_5 ?_
  refine vv_iload_n (pc := 6) X (kf := 1) (i := 1) rfl 1 rfl dX9_borderOf_6 ?_
  refine vv_iload_n (pc := 7) X (kf := 2) (i := 2) rfl 2 rfl dX9_borderOf_7 ?_
  refine vv_iadd (pc := 8) X dX9_borderOf_8 ?_
  refine vv_iload_n (pc := 9) X (kf := 3) (i := 3) rfl 3 rfl dX9_borderOf_9 ?_
  refine vv_isub (pc := 10) X dX9_borderOf_10 ?_
  refine vv_iload_n (pc := 11) X (kf := 3) (i := 3) rfl 3 rfl dX9_borderOf_11 ?_
  refine vv_rcv (fun b3 t9 c9 fs9 e4 g9 k9 => ?_)
  cases List.mem_singleton.mp k9
  refine vv_callI (pc := 12) (rest := []) (by rw [e4]; rfl) (fun r8 k8 e8 => zz_callV X (m_X9_areAlike (hlM X) _ _ _ _ _ _ _ e8) g9 rfl rfl q3884 q3886 qs115 q164 q3887 nh_X9 rfl (by decide) (by decide) (Nat.le_of_ble_eq_true rfl) dX9_borderOf_12) (fun v1 h2 => ?_)
  refine vv_if_ne (pc := 15) (tgt := 24) X dX9_borderOf_15 rfl ?_ ?_
  · refine vv_iload_n (pc := 24) X (kf := 3) (i := 3) rfl 3 rfl dX9_borderOf_24 ?_
    exact vv_iretI X rfl rfl dX9_borderOf_25
  · refine vv_iinc (pc := 18) (lv' := [(3, LI (x3 + (-1))), (0, LR x0), (1, LI x1), (2, LI x2)]) X 3 rfl (by decide) rfl dX9_borderOf_18 ?_
    refine vv_goto (pc := 21) (tgt := 4) X dX9_borderOf_21 rfl ?_
    exact vv_sub [1, 2, 3, 0] (by rfl) (hr4 _ _ _ _ _)
theorem B_X9_borderOf_4 {M : hp_M} {G : va_G} {h0 : HP} (X : hp_X M G h0 "RenamedWordsModel" "borderOf" cX9_borderOf 4 (some .int) [] 5 154) : ∀ (x0 : Option Nat) (x1 : Int) (x2 : Int) (x3 : Int) (h : HP), vv M G h0 4 (hp_End M G h0) jI h 4 [(0, LR x0), (1, LI x1), (2, LI x2), (3, LI x3)] [] (b_X9_borderOf_4 x0 x1 x2 x3 h) := by
  unfold b_X9_borderOf_4
  generalize FU = n
  induction n with
  | zero => intro x0 x1 x2 x3 h; exact vv_none
  | succ n ih => exact C_X9_borderOf_4 X _ ih
noncomputable def f_X9_borderOf (a0 : Nat) (a1 : Int) (a2 : Int) (h : HP) : Option ((Int) × HP) :=
  b_X9_borderOf_4 (some a0) a1 a2 (a2 - 1) h
theorem A_X9_borderOf {M : hp_M} {G : va_G} {h0 : HP} (X : hp_X M G h0 "RenamedWordsModel" "borderOf" cX9_borderOf 4 (some .int) [] 5 154) (a0 : Nat) (a1 : Int) (a2 : Int) (h : HP) : vv M G h0 4 (hp_End M G h0) jI h 0 [(0, LR (some a0)), (1, LI a1), (2, LI a2)] [] (f_X9_borderOf a0 a1 a2 h) := by
  unfold f_X9_borderOf
  refine vv_iload_n (pc := 0) X (kf := 2) (i := 2) rfl 2 rfl dX9_borderOf_0 ?_
  refine vv_iconst (pc := 1) X dX9_borderOf_1 ?_
  refine vv_isub (pc := 2) X dX9_borderOf_2 ?_
  refine vv_istore_n (pc := 3) (lv' := [(3, LI (a2 - 1)), (0, LR (some a0)), (1, LI a1), (2, LI a2)]) X (kf := 3) (i := 3) rfl (by decide) rfl dX9_borderOf_3 ?_
  exact vv_sub [1, 2, 3, 0] (by rfl) (B_X9_borderOf_4 X _ _ _ _ _)
theorem m_X9_borderOf {l : Launch} (hl : l.stackTraces = false) {G : va_G} (a0 : Nat) (a1 : Int) (a2 : Int) (h : HP) : ∀ r hf, f_X9_borderOf a0 a1 a2 h = some (r, hf) → Ct l yX9_borderOf (ws_ yX9_borderOf cX9_borderOf 4 (some .int)) 5 154 G h [.ref a0, .int (iI a1), .int (iI a2)] (jI r) hf :=
  zz_ofW hl (by decide +kernel) (lv := [(0, LR (some a0)), (1, LI a1), (2, LI a2)]) (by simp [lv_args, lvL, lvV, zz_rfc, zz_rfs, zz_ci, zz_cr, zz_cj, zz_cf, zz_cd]) (by simp [lg_sl, zz_rfc, zz_ci, zz_cr, zz_cj, zz_cf, zz_cd]) (fun _ X => A_X9_borderOf X a0 a1 a2 h)
-- X9_marksOf RenamedWordsModel.marksOf(I)I
noncomputable def b_X9_marksOf_29 (r4 : Option Nat → Int → Int → Int → HP → Option ((Int) × HP)) (x0 : Option Nat) (x1 : Int) (x3 : Int) (s0 : Int) (s1 : Int) (h : HP) : Option ((Int) × HP) :=
  hb (f_X9_one s0 h) fun v7 h8 =>
  r4 x0 x1 (s1 + v7) (x3 + 1) h8
theorem B_X9_marksOf_29 {M : hp_M} {G : va_G} {h0 : HP} (X : hp_X M G h0 "RenamedWordsModel" "marksOf" cX9_marksOf 4 (some .int) [] 1 29) (r4 : Option Nat → Int → Int → Int → HP → Option ((Int) × HP)) (hr4 : ∀ (y0 : Option Nat) (y1 : Int) (y2 : Int) (y3 : Int) (h : HP), vv M G h0 4 (hp_End M G h0) jI h 4 [(0, LR y0), (1, LI y1), (2, LI y2), (3, LI y3)] [] (r4 y0 y1 y2 y3 h)) (x0 : Option Nat) (x1 : Int) (x3 : Int) (s0 : Int) (s1 : Int) (h : HP) : vv M G h0 4 (hp_End M G h0) jI h 29 [(0, LR x0), (1, LI x1), (3, LI x3)] [LI s0, LI s1] (b_X9_marksOf_29 r4 x0 x1 x3 s0 s1 h) := by
  unfold b_X9_marksOf_29
  refine vv_callI (pc := 29) (rest := [LI s1]) (by rfl) (fun r8 k8 e8 => zz_callS X (m_X9_one (hlM X) _ _ _ _ e8) q3559 q3560 q164 q3561 nh_X9 rfl (by decide) (by decide) (Nat.le_of_ble_eq_true rfl) dX9_marksOf_29) (fun v7 h8 => ?_)
  refine vv_iadd (pc := 32) X dX9_marksOf_32 ?_
  refine vv_istore_n (pc := 33) (lv' := [(2, LI (s1 + v7)), (0, LR x0), (1, LI x1), (3, LI x3)]) X (kf := 2) (i := 2) rfl (by decide) rfl dX9_marksOf_33 ?_
  refine vv_iinc (pc := 34) (lv' := [(3, LI (x3 + 1)), (2, LI (s1 + v7)), (0, LR x0), (1, LI x1)]) X 3 rfl (by decide) rfl dX9_marksOf_34 ?_
  refine vv_goto (pc := 37) (tgt := 4) X dX9_marksOf_37 rfl ?_
  exact vv_sub [2, 3, 1, 0] (by rfl) (hr4 _ _ _ _ _)
noncomputable def c_X9_marksOf_4 (r4 : Option Nat → Int → Int → Int → HP → Option ((Int) × HP)) (x0 : Option Nat) (x1 : Int) (x2 : Int) (x3 : Int) (h : HP) : Option ((Int) × HP) :=
  (rdR h x0 [7] 0).bind fun v1 =>
  (aldI h .int v1 3).bind fun v2 =>
  iLE v2 x3
    (some (x2, h))
    ((rcv h x0 [7]).bind fun b5 =>
    hb (f_X9_markPattern b5 x3 h) fun v3 h4 =>
    iEQ v3 x1
      (b_X9_marksOf_29 r4 x0 x1 x3 1 x2 h4)
      (b_X9_marksOf_29 r4 x0 x1 x3 0 x2 h4))
noncomputable def b_X9_marksOf_4 : Option Nat → Int → Int → Int → HP → Option ((Int) × HP) := fx (fun _ _ _ _ _ => none) (c_X9_marksOf_4) FU
theorem C_X9_marksOf_4 {M : hp_M} {G : va_G} {h0 : HP} (X : hp_X M G h0 "RenamedWordsModel" "marksOf" cX9_marksOf 4 (some .int) [] 1 29) (r4 : Option Nat → Int → Int → Int → HP → Option ((Int) × HP)) (hr4 : ∀ (y0 : Option Nat) (y1 : Int) (y2 : Int) (y3 : Int) (h : HP), vv M G h0 4 (hp_End M G h0) jI h 4 [(0, LR y0), (1, LI y1), (2, LI y2), (3, LI y3)] [] (r4 y0 y1 y2 y3 h)) (x0 : Option Nat) (x1 : Int) (x2 : Int) (x3 : Int) (h : HP) : vv M G h0 4 (hp_End M G h0) jI h 4 [(0, LR x0), (1, LI x1), (2, LI x2), (3, LI x3)] [] (c_X9_marksOf_4 r4 x0 x1 x2 x3 h) := by
  unfold c_X9_marksOf_4
  refine vv_iload_n (pc := 4) X (kf := 3) (i := 3) rfl 3 rfl dX9_marksOf_4 ?_
  refine vv_aload_n (pc := 5) X (kf := 0) (i := 0) rfl 0 rfl dX9_marksOf_5 ?_
  refine vv_getR (pc := 6) X (fun _ z => by cases List.mem_singleton.mp z; exact fl_X9_9_7) dX9_marksOf_6 (fun v1 => ?_)
  refine vv_iconst (pc := 9) X dX9_marksOf_9 ?_
  refine vv_iaload (pc := 10) X dX9_marksOf_10 (fun v2 => ?_)
  refine vv_icmp_ge (pc := 11) (tgt := 40) X dX9_marksOf_11 rfl ?_ ?_
  · refine vv_iload_n (pc := 40) X (kf := 2) (i := 2) rfl 2 rfl dX9_marksOf_40 ?_
    exact vv_iretI X rfl rfl dX9_marksOf_41
  · refine vv_iload_n (pc := 14) X (kf := 2) (i := 2) rfl 2 rfl dX9_marksOf_14 ?_
    refine vv_aload_n (pc := 15) X (kf := 0) (i := 0) rfl 0 rfl dX9_marksOf_15 ?_
    refine vv_iload_n (pc := 16) X (kf := 3) (i := 3) rfl 3 rfl dX9_marksOf_16 ?_
    refine vv_rcv (fun b5 t9 c9 fs9 e6 g9 k9 => ?_)
    cases List.mem_singleton.mp k9
    refine vv_callI (pc := 17) (rest := [LI x2]) (by rw [e6]; rfl) (fun r8 k8 e8 => zz_callV X (m_X9_markPattern (hlM X) _ _ _ _ _ e8) g9 rfl rfl q3759 q3761 qs91 q164 q3762 nh_X9 rfl (by decide) (by decide) (Nat.le_of_ble_eq_true rfl) dX9_marksOf_17) (fun v3 h4 => ?_)
    refine vv_iload_n (pc := 20) X (kf := 1) (i := 1) rfl 1 rfl dX9_marksOf_20 ?_
    refine vv_icmp_ne (pc := 21) (tgt := 28) X dX9_marksOf_21 rfl ?_ ?_
    · refine vv_iconst (pc := 28) X dX9_marksOf_28 ?_
      exact vv_sub [0, 1, 3] (by rfl) (B_X9_marksOf_29 X r4 hr4 _ _ _ _ _ _)
    · refine vv_iconst (pc := 24) X dX9_marksOf_24 ?_
      refine vv_goto (pc := 25) (tgt := 29) X dX9_marksOf_25 rfl ?_
      exact vv_sub [0, 1, 3] (by rfl) (B_X9_marksOf_29 X r4 hr4 _ _ _ _ _ _)
theorem B_X9_marksOf_4 {M : hp_M} {G : va_G} {h0 : HP} (X : hp_X M G h0 "RenamedWordsModel" "marksOf" cX9_marksOf 4 (some .int) [] 1 29) : ∀ (x0 : Option Nat) (x1 : Int) (x2 : Int) (x3 : Int) (h : HP), vv M G h0 4 (hp_End M G h0) jI h 4 [(0, LR x0), (1, LI x1), (2, LI x2), (3, LI x3)] [] (b_X9_marksOf_4 x0 x1 x2 x3 h) := by
  unfold b_X9_marksOf_4
  generalize FU = n
  induction n with
  | zero => intro x0 x1 x2 x3 h; exact vv_none
  | succ n ih => exact C_X9_marksOf_4 X _ ih
noncomputable def f_X9_marksOf (a0 : Nat) (a1 : Int) (h : HP) : Option ((Int) × HP) :=
  b_X9_marksOf_4 (some a0) a1 0 0 h
theorem A_X9_marksOf {M : hp_M} {G : va_G} {h0 : HP} (X : hp_X M G h0 "RenamedWordsModel" "marksOf" cX9_marksOf 4 (some .int) [] 1 29) (a0 : Nat) (a1 : Int) (h : HP) : vv M G h0 4 (hp_End M G h0) jI h 0 [(0, LR (some a0)), (1, LI a1)] [] (f_X9_marksOf a0 a1 h) := by
  unfold f_X9_marksOf
  refine vv_iconst (pc := 0) X dX9_marksOf_0 ?_
  refine vv_istore_n (pc := 1) (lv' := [(2, LI 0), (0, LR (some a0)), (1, LI a1)]) X (kf := 2) (i := 2) rfl (by decide) rfl dX9_marksOf_1 ?_
  refine vv_iconst (pc := 2) X dX9_marksOf_2 ?_
  refine vv_istore_n (pc := 3) (lv' := [(3, LI 0), (2, LI 0), (0, LR (some a0)), (1, LI a1)]) X (kf := 3) (i := 3) rfl (by decide) rfl dX9_marksOf_3 ?_
  exact vv_sub [2, 3, 1, 0] (by rfl) (B_X9_marksOf_4 X _ _ _ _ _)
theorem m_X9_marksOf {l : Launch} (hl : l.stackTraces = false) {G : va_G} (a0 : Nat) (a1 : Int) (h : HP) : ∀ r hf, f_X9_marksOf a0 a1 h = some (r, hf) → Ct l yX9_marksOf (ws_ yX9_marksOf cX9_marksOf 4 (some .int)) 1 29 G h [.ref a0, .int (iI a1)] (jI r) hf :=
  zz_ofW hl (by decide +kernel) (lv := [(0, LR (some a0)), (1, LI a1)]) (by simp [lv_args, lvL, lvV, zz_rfc, zz_rfs, zz_ci, zz_cr, zz_cj, zz_cf, zz_cd]) (by simp [lg_sl, zz_rfc, zz_ci, zz_cr, zz_cj, zz_cf, zz_cd]) (fun _ X => A_X9_marksOf X a0 a1 h)
-- X9_isCandidate RenamedWordsModel.isCandidate(II)Z
noncomputable def c_X9_isCandidate_168 (r168 : Option Nat → Int → HP → Option ((Int) × HP)) (x0 : Option Nat) (x4 : Int) (h : HP) : Option ((Int) × HP) :=
  iLT 20 x4
    (some (1, h))
    ((rdR h x0 [7] 10).bind fun v19 =>
    (aldI h .int v19 x4).bind fun v20 =>
    iEQ v20 0
      (r168 x0 (x4 + 1) h)
      (some (0, h)))
noncomputable def b_X9_isCandidate_168 : Option Nat → Int → HP → Option ((Int) × HP) := fx (fun _ _ _ => none) (c_X9_isCandidate_168) FU
theorem C_X9_isCandidate_168 {M : hp_M} {G : va_G} {h0 : HP} (X : hp_X M G h0 "RenamedWordsModel" "isCandidate" cX9_isCandidate 5 (some .boolean) [] 1 32) (r168 : Option Nat → Int → HP → Option ((Int) × HP)) (hr168 : ∀ (y0 : Option Nat) (y4 : Int) (h : HP), vv M G h0 5 (hp_End M G h0) jI h 168 [(0, LR y0), (4, LI y4)] [] (r168 y0 y4 h)) (x0 : Option Nat) (x4 : Int) (h : HP) : vv M G h0 5 (hp_End M G h0) jI h 168 [(0, LR x0), (4, LI x4)] [] (c_X9_isCandidate_168 r168 x0 x4 h) := by
  unfold c_X9_isCandidate_168
  refine vv_iload (pc := 168) X 1 rfl dX9_isCandidate_168 ?_
  refine vv_bipush (pc := 170) X (by decide) dX9_isCandidate_170 ?_
  refine vv_icmp_gt (pc := 172) (tgt := 193) X dX9_isCandidate_172 rfl ?_ ?_
  · refine vv_iconst (pc := 193) X dX9_isCandidate_193 ?_
    exact vv_iret1 X rfl rfl dX9_isCandidate_194
  · refine vv_aload_n (pc := 175) X (kf := 0) (i := 0) rfl 0 rfl dX9_isCandidate_175 ?_
    refine vv_getR (pc := 176) X (fun _ z => by cases List.mem_singleton.mp z; exact fl_X9_35_7) dX9_isCandidate_176 (fun v19 => ?_)
    refine vv_iload (pc := 179) X 1 rfl dX9_isCandidate_179 ?_
    refine vv_iaload (pc := 181) X dX9_isCandidate_181 (fun v20 => ?_)
    refine vv_if_eq (pc := 182) (tgt := 187) X dX9_isCandidate_182 rfl ?_ ?_
    · refine vv_iinc (pc := 187) (lv' := [(4, LI (x4 + 1)), (0, LR x0)]) X 1 rfl (by decide) rfl dX9_isCandidate_187 ?_
      refine vv_goto (pc := 190) (tgt := 168) X dX9_isCandidate_190 rfl ?_
      exact vv_sub [1, 0] (by rfl) (hr168 _ _ _)
    · refine vv_iconst (pc := 185) X dX9_isCandidate_185 ?_
      exact vv_iret0 X rfl rfl dX9_isCandidate_186
theorem B_X9_isCandidate_168 {M : hp_M} {G : va_G} {h0 : HP} (X : hp_X M G h0 "RenamedWordsModel" "isCandidate" cX9_isCandidate 5 (some .boolean) [] 1 32) : ∀ (x0 : Option Nat) (x4 : Int) (h : HP), vv M G h0 5 (hp_End M G h0) jI h 168 [(0, LR x0), (4, LI x4)] [] (b_X9_isCandidate_168 x0 x4 h) := by
  unfold b_X9_isCandidate_168
  generalize FU = n
  induction n with
  | zero => intro x0 x4 h; exact vv_none
  | succ n ih => exact C_X9_isCandidate_168 X _ ih
noncomputable def b_X9_isCandidate_159 (r80 : Option Nat → Int → HP → Option ((Int) × HP)) (x0 : Option Nat) (x4 : Int) (h : HP) : Option ((Int) × HP) :=
  r80 x0 (x4 + 1) h
theorem B_X9_isCandidate_159 {M : hp_M} {G : va_G} {h0 : HP} (X : hp_X M G h0 "RenamedWordsModel" "isCandidate" cX9_isCandidate 5 (some .boolean) [] 1 32) (r80 : Option Nat → Int → HP → Option ((Int) × HP)) (hr80 : ∀ (y0 : Option Nat) (y4 : Int) (h : HP), vv M G h0 5 (hp_End M G h0) jI h 80 [(0, LR y0), (4, LI y4)] [] (r80 y0 y4 h)) (x0 : Option Nat) (x4 : Int) (h : HP) : vv M G h0 5 (hp_End M G h0) jI h 159 [(0, LR x0), (4, LI x4)] [] (b_X9_isCandidate_159 r80 x0 x4 h) := by
  unfold b_X9_isCandidate_159
  refine vv_iinc (pc := 159) (lv' := [(4, LI (x4 + 1)), (0, LR x0)]) X 1 rfl (by decide) rfl dX9_isCandidate_159 ?_
  refine vv_goto (pc := 162) (tgt := 80) X dX9_isCandidate_162 rfl ?_
  exact vv_sub [1, 0] (by rfl) (hr80 _ _ _)
noncomputable def b_X9_isCandidate_115 (r80 : Option Nat → Int → HP → Option ((Int) × HP)) (x0 : Option Nat) (x4 : Int) (h : HP) : Option ((Int) × HP) :=
  (rcv h x0 [7]).bind fun b27 =>
  hb (f_X9_isFirm b27 x4 h) fun v25 h26 =>
  iEQ v25 0
    ((rdR h26 x0 [7] 10).bind fun v29 =>
    (rdR h26 x0 [7] 8).bind fun v30 =>
    (aldI h26 .int v30 x4).bind fun v31 =>
    (aldI h26 .int v29 v31).bind fun v32 =>
    (astI h26 .int v29 v31 (v32 + 1)).bind fun h33 =>
    (rdR h33 x0 [7] 10).bind fun v34 =>
    (rdR h33 x0 [7] 9).bind fun v35 =>
    (aldI h33 .int v35 x4).bind fun v36 =>
    (aldI h33 .int v34 v36).bind fun v37 =>
    (astI h33 .int v34 v36 (v37 - 1)).bind fun h38 =>
    b_X9_isCandidate_159 r80 x0 x4 h38)
    (b_X9_isCandidate_159 r80 x0 x4 h26)
theorem B_X9_isCandidate_115 {M : hp_M} {G : va_G} {h0 : HP} (X : hp_X M G h0 "RenamedWordsModel" "isCandidate" cX9_isCandidate 5 (some .boolean) [] 1 32) (r80 : Option Nat → Int → HP → Option ((Int) × HP)) (hr80 : ∀ (y0 : Option Nat) (y4 : Int) (h : HP), vv M G h0 5 (hp_End M G h0) jI h 80 [(0, LR y0), (4, LI y4)] [] (r80 y0 y4 h)) (x0 : Option Nat) (x4 : Int) (h : HP) : vv M G h0 5 (hp_End M G h0) jI h 115 [(0, LR x0), (4, LI x4)] [] (b_X9_isCandidate_115 r80 x0 x4 h) := by
  unfold b_X9_isCandidate_115
  refine vv_aload_n (pc := 115) X (kf := 0) (i := 0) rfl 0 rfl dX9_isCandidate_115 ?_
  refine vv_iload (pc := 116) X 1 rfl dX9_isCandidate_116 ?_
  refine vv_rcv (fun b27 t9 c9 fs9 e28 g9 k9 => ?_)
  cases List.mem_singleton.mp k9
  refine vv_callI (pc := 118) (rest := []) (by rw [e28]; rfl) (fun r8 k8 e8 => zz_callV X (m_X9_isFirm (hlM X) _ _ _ _ _ e8) g9 rfl rfl q3789 q3791 qs97 q164 q3792 nh_X9 rfl (by decide) (by decide) (Nat.le_of_ble_eq_true rfl) dX9_isCandidate_118) (fun v25 h26 => ?_)
  refine vv_if_eq (pc := 121) (tgt := 127) X dX9_isCandidate_121 rfl ?_ ?_
  · refine vv_aload_n (pc := 127) X (kf := 0) (i := 0) rfl 0 rfl dX9_isCandidate_127 ?_
    refine vv_getR (pc := 128) X (fun _ z => by cases List.mem_singleton.mp z; exact fl_X9_35_7) dX9_isCandidate_128 (fun v29 => ?_)
    refine vv_aload_n (pc := 131) X (kf := 0) (i := 0) rfl 0 rfl dX9_isCandidate_131 ?_
    refine vv_getR (pc := 132) X (fun _ z => by cases List.mem_singleton.mp z; exact fl_X9_29_7) dX9_isCandidate_132 (fun v30 => ?_)
    refine vv_iload (pc := 135) X 1 rfl dX9_isCandidate_135 ?_
    refine vv_iaload (pc := 137) X dX9_isCandidate_137 (fun v31 => ?_)
    refine vv_dup2 (pc := 138) X rfl rfl dX9_isCandidate_138 ?_
    refine vv_iaload (pc := 139) X dX9_isCandidate_139 (fun v32 => ?_)
    refine vv_iconst (pc := 140) X dX9_isCandidate_140 ?_
    refine vv_iadd (pc := 141) X dX9_isCandidate_141 ?_
    refine vv_iastore (pc := 142) X dX9_isCandidate_142 (fun h33 => ?_)
    refine vv_aload_n (pc := 143) X (kf := 0) (i := 0) rfl 0 rfl dX9_isCandidate_143 ?_
    refine vv_getR (pc := 144) X (fun _ z => by cases List.mem_singleton.mp z; exact fl_X9_35_7) dX9_isCandidate_144 (fun v34 => ?_)
    refine vv_aload_n (pc := 147) X (kf := 0) (i := 0) rfl 0 rfl dX9_isCandidate_147 ?_
    refine vv_getR (pc := 148) X (fun _ z => by cases List.mem_singleton.mp z; exact fl_X9_32_7) dX9_isCandidate_148 (fun v35 => ?_)
    refine vv_iload (pc := 151) X 1 rfl dX9_isCandidate_151 ?_
    refine vv_iaload (pc := 153) X dX9_isCandidate_153 (fun v36 => ?_)
    refine vv_dup2 (pc := 154) X rfl rfl dX9_isCandidate_154 ?_
    refine vv_iaload (pc := 155) X dX9_isCandidate_155 (fun v37 => ?_)
    refine vv_iconst (pc := 156) X dX9_isCandidate_156 ?_
    refine vv_isub (pc := 157) X dX9_isCandidate_157 ?_
    refine vv_iastore (pc := 158) X dX9_isCandidate_158 (fun h38 => ?_)
    exact B_X9_isCandidate_159 X r80 hr80 _ _ _
  · refine vv_goto (pc := 124) (tgt := 159) X dX9_isCandidate_124 rfl ?_
    exact B_X9_isCandidate_159 X r80 hr80 _ _ _
noncomputable def c_X9_isCandidate_80 (r80 : Option Nat → Int → HP → Option ((Int) × HP)) (x0 : Option Nat) (x4 : Int) (h : HP) : Option ((Int) × HP) :=
  iLE 26 x4
    (b_X9_isCandidate_168 x0 0 h)
    ((rcv h x0 [7]).bind fun b23 =>
    hb (f_X9_isFirm b23 x4 h) fun v21 h22 =>
    iEQ v21 0
      (b_X9_isCandidate_115 r80 x0 x4 h22)
      ((rdR h22 x0 [7] 8).bind fun v39 =>
      (aldI h22 .int v39 x4).bind fun v40 =>
      (rdR h22 x0 [7] 9).bind fun v41 =>
      (aldI h22 .int v41 x4).bind fun v42 =>
      iEQ v40 v42
        (b_X9_isCandidate_115 r80 x0 x4 h22)
        (some (0, h22))))
noncomputable def b_X9_isCandidate_80 : Option Nat → Int → HP → Option ((Int) × HP) := fx (fun _ _ _ => none) (c_X9_isCandidate_80) FU
theorem C_X9_isCandidate_80 {M : hp_M} {G : va_G} {h0 : HP} (X : hp_X M G h0 "RenamedWordsModel" "isCandidate" cX9_isCandidate 5 (some .boolean) [] 1 32) (r80 : Option Nat → Int → HP → Option ((Int) × HP)) (hr80 : ∀ (y0 : Option Nat) (y4 : Int) (h : HP), vv M G h0 5 (hp_End M G h0) jI h 80 [(0, LR y0), (4, LI y4)] [] (r80 y0 y4 h)) (x0 : Option Nat) (x4 : Int) (h : HP) : vv M G h0 5 (hp_End M G h0) jI h 80 [(0, LR x0), (4, LI x4)] [] (c_X9_isCandidate_80 r80 x0 x4 h) := by
  unfold c_X9_isCandidate_80
  refine vv_iload (pc := 80) X 1 rfl dX9_isCandidate_80 ?_
  refine vv_bipush (pc := 82) X (by decide) dX9_isCandidate_82 ?_
  refine vv_icmp_ge (pc := 84) (tgt := 165) X dX9_isCandidate_84 rfl ?_ ?_
  · refine vv_iconst (pc := 165) X dX9_isCandidate_165 ?_
    refine vv_istore (pc := 166) (lv' := [(4, LI 0), (0, LR x0)]) X (by decide) rfl dX9_isCandidate_166 ?_
    exact vv_sub [1, 0] (by rfl) (B_X9_isCandidate_168 X _ _ _)
  · refine vv_aload_n (pc := 87) X (kf := 0) (i := 0) rfl 0 rfl dX9_isCandidate_87 ?_
    refine vv_iload (pc := 88) X 1 rfl dX9_isCandidate_88 ?_
    refine vv_rcv (fun b23 t9 c9 fs9 e24 g9 k9 => ?_)
    cases List.mem_singleton.mp k9
    refine vv_callI (pc := 90) (rest := []) (by rw [e24]; rfl) (fun r8 k8 e8 => zz_callV X (m_X9_isFirm (hlM X) _ _ _ _ _ e8) g9 rfl rfl q3789 q3791 qs97 q164 q3792 nh_X9 rfl (by decide) (by decide) (Nat.le_of_ble_eq_true rfl) dX9_isCandidate_90) (fun v21 h22 => ?_)
    refine vv_if_eq (pc := 93) (tgt := 115) X dX9_isCandidate_93 rfl ?_ ?_
    · exact B_X9_isCandidate_115 X r80 hr80 _ _ _
    · refine vv_aload_n (pc := 96) X (kf := 0) (i := 0) rfl 0 rfl dX9_isCandidate_96 ?_
      refine vv_getR (pc := 97) X (fun _ z => by cases List.mem_singleton.mp z; exact fl_X9_29_7) dX9_isCandidate_97 (fun v39 => ?_)
      refine vv_iload (pc := 100) X 1 rfl dX9_isCandidate_100 ?_
      refine vv_iaload (pc := 102) X dX9_isCandidate_102 (fun v40 => ?_)
      refine vv_aload_n (pc := 103) X (kf := 0) (i := 0) rfl 0 rfl dX9_isCandidate_103 ?_
      refine vv_getR (pc := 104) X (fun _ z => by cases List.mem_singleton.mp z; exact fl_X9_32_7) dX9_isCandidate_104 (fun v41 => ?_)
      refine vv_iload (pc := 107) X 1 rfl dX9_isCandidate_107 ?_
      refine vv_iaload (pc := 109) X dX9_isCandidate_109 (fun v42 => ?_)
      refine vv_icmp_eq (pc := 110) (tgt := 115) X dX9_isCandidate_110 rfl ?_ ?_
      · exact B_X9_isCandidate_115 X r80 hr80 _ _ _
      · refine vv_iconst (pc := 113) X dX9_isCandidate_113 ?_
        exact vv_iret0 X rfl rfl dX9_isCandidate_114
theorem B_X9_isCandidate_80 {M : hp_M} {G : va_G} {h0 : HP} (X : hp_X M G h0 "RenamedWordsModel" "isCandidate" cX9_isCandidate 5 (some .boolean) [] 1 32) : ∀ (x0 : Option Nat) (x4 : Int) (h : HP), vv M G h0 5 (hp_End M G h0) jI h 80 [(0, LR x0), (4, LI x4)] [] (b_X9_isCandidate_80 x0 x4 h) := by
  unfold b_X9_isCandidate_80
  generalize FU = n
  induction n with
  | zero => intro x0 x4 h; exact vv_none
  | succ n ih => exact C_X9_isCandidate_80 X _ ih
noncomputable def c_X9_isCandidate_56 (r56 : Option Nat → Int → HP → Option ((Int) × HP)) (x0 : Option Nat) (x4 : Int) (h : HP) : Option ((Int) × HP) :=
  iLT 20 x4
    (b_X9_isCandidate_80 x0 0 h)
    ((rdR h x0 [7] 10).bind fun v43 =>
    (astI h .int v43 x4 0).bind fun h44 =>
    r56 x0 (x4 + 1) h44)
noncomputable def b_X9_isCandidate_56 : Option Nat → Int → HP → Option ((Int) × HP) := fx (fun _ _ _ => none) (c_X9_isCandidate_56) FU
theorem C_X9_isCandidate_56 {M : hp_M} {G : va_G} {h0 : HP} (X : hp_X M G h0 "RenamedWordsModel" "isCandidate" cX9_isCandidate 5 (some .boolean) [] 1 32) (r56 : Option Nat → Int → HP → Option ((Int) × HP)) (hr56 : ∀ (y0 : Option Nat) (y4 : Int) (h : HP), vv M G h0 5 (hp_End M G h0) jI h 56 [(0, LR y0), (4, LI y4)] [] (r56 y0 y4 h)) (x0 : Option Nat) (x4 : Int) (h : HP) : vv M G h0 5 (hp_End M G h0) jI h 56 [(0, LR x0), (4, LI x4)] [] (c_X9_isCandidate_56 r56 x0 x4 h) := by
  unfold c_X9_isCandidate_56
  refine vv_iload (pc := 56) X 1 rfl dX9_isCandidate_56 ?_
  refine vv_bipush (pc := 58) X (by decide) dX9_isCandidate_58 ?_
  refine vv_icmp_gt (pc := 60) (tgt := 77) X dX9_isCandidate_60 rfl ?_ ?_
  · refine vv_iconst (pc := 77) X dX9_isCandidate_77 ?_
    refine vv_istore (pc := 78) (lv' := [(4, LI 0), (0, LR x0)]) X (by decide) rfl dX9_isCandidate_78 ?_
    exact vv_sub [1, 0] (by rfl) (B_X9_isCandidate_80 X _ _ _)
  · refine vv_aload_n (pc := 63) X (kf := 0) (i := 0) rfl 0 rfl dX9_isCandidate_63 ?_
    refine vv_getR (pc := 64) X (fun _ z => by cases List.mem_singleton.mp z; exact fl_X9_35_7) dX9_isCandidate_64 (fun v43 => ?_)
    refine vv_iload (pc := 67) X 1 rfl dX9_isCandidate_67 ?_
    refine vv_iconst (pc := 69) X dX9_isCandidate_69 ?_
    refine vv_iastore (pc := 70) X dX9_isCandidate_70 (fun h44 => ?_)
    refine vv_iinc (pc := 71) (lv' := [(4, LI (x4 + 1)), (0, LR x0)]) X 1 rfl (by decide) rfl dX9_isCandidate_71 ?_
    refine vv_goto (pc := 74) (tgt := 56) X dX9_isCandidate_74 rfl ?_
    exact vv_sub [1, 0] (by rfl) (hr56 _ _ _)
theorem B_X9_isCandidate_56 {M : hp_M} {G : va_G} {h0 : HP} (X : hp_X M G h0 "RenamedWordsModel" "isCandidate" cX9_isCandidate 5 (some .boolean) [] 1 32) : ∀ (x0 : Option Nat) (x4 : Int) (h : HP), vv M G h0 5 (hp_End M G h0) jI h 56 [(0, LR x0), (4, LI x4)] [] (b_X9_isCandidate_56 x0 x4 h) := by
  unfold b_X9_isCandidate_56
  generalize FU = n
  induction n with
  | zero => intro x0 x4 h; exact vv_none
  | succ n ih => exact C_X9_isCandidate_56 X _ ih
noncomputable def f_X9_isCandidate (a0 : Nat) (a1 : Int) (a2 : Int) (h : HP) : Option ((Int) × HP) :=
  (rcv h (some a0) [7]).bind fun b3 =>
  hb (f_X9_of b3 a1 0 h) fun v1 h2 =>
  (rdR h2 (some a0) [7] 0).bind fun v5 =>
  (aldI h2 .int v5 1).bind fun v6 =>
  iLE (a2 + v1) v6
    ((rdR h2 (some a0) [7] 8).bind fun v7 =>
    (rdR h2 (some a0) [7] 0).bind fun v8 =>
    hb (f_X9_patternFrom a1 h2) fun v9 h10 =>
    hb (f_X9_counts0 v7 v8 v9 v1 h10) fun _ h12 =>
    (rdR h12 (some a0) [7] 9).bind fun v13 =>
    (rdR h12 (some a0) [7] 0).bind fun v14 =>
    hb (f_X9_textFrom a2 h12) fun v15 h16 =>
    hb (f_X9_counts0 v13 v14 v15 v1 h16) fun _ h18 =>
    b_X9_isCandidate_56 (some a0) 0 h18)
    (some (0, h2))
theorem A_X9_isCandidate {M : hp_M} {G : va_G} {h0 : HP} (X : hp_X M G h0 "RenamedWordsModel" "isCandidate" cX9_isCandidate 5 (some .boolean) [] 1 32) (a0 : Nat) (a1 : Int) (a2 : Int) (h : HP) : vv M G h0 5 (hp_End M G h0) jI h 0 [(0, LR (some a0)), (1, LI a1), (2, LI a2)] [] (f_X9_isCandidate a0 a1 a2 h) := by
  unfold f_X9_isCandidate
  refine vv_aload_n (pc := 0) X (kf := 0) (i := 0) rfl 0 rfl dX9_isCandidate_0 ?_
  refine vv_iload_n (pc := 1) X (kf := 1) (i := 1) rfl 1 rfl dX9_isCandidate_1 ?_
  refine vv_iconst (pc := 2) X dX9_isCandidate_2 ?_
  refine vv_rcv (fun b3 t9 c9 fs9 e4 g9 k9 => ?_)
  cases List.mem_singleton.mp k9
  refine vv_callI (pc := 3) (rest := []) (by rw [e4]; rfl) (fun r8 k8 e8 => zz_callV X (m_X9_of (hlM X) _ _ _ _ _ _ e8) g9 rfl rfl q3777 q3779 qs94 q164 q3780 nh_X9 rfl (by decide) (by decide) (Nat.le_of_ble_eq_true rfl) dX9_isCandidate_3) (fun v1 h2 => ?_)
  refine vv_istore_n (pc := 6) (lv' := [(3, LI v1), (0, LR (some a0)), (1, LI a1), (2, LI a2)]) X (kf := 3) (i := 3) rfl (by decide) rfl dX9_isCandidate_6 ?_
  refine vv_iload_n (pc := 7) X (kf := 2) (i := 2) rfl 3 rfl dX9_isCandidate_7 ?_
  refine vv_iload_n (pc := 8) X (kf := 3) (i := 3) rfl 0 rfl dX9_isCandidate_8 ?_
  refine vv_iadd (pc := 9) X dX9_isCandidate_9 ?_
  refine vv_aload_n (pc := 10) X (kf := 0) (i := 0) rfl 1 rfl dX9_isCandidate_10 ?_
  refine vv_getR (pc := 11) X (fun _ z => by cases List.mem_singleton.mp z; exact fl_X9_9_7) dX9_isCandidate_11 (fun v5 => ?_)
  refine vv_iconst (pc := 14) X dX9_isCandidate_14 ?_
  refine vv_iaload (pc := 15) X dX9_isCandidate_15 (fun v6 => ?_)
  refine vv_icmp_le (pc := 16) (tgt := 21) X dX9_isCandidate_16 rfl ?_ ?_
  · refine vv_aload_n (pc := 21) X (kf := 0) (i := 0) rfl 1 rfl dX9_isCandidate_21 ?_
    refine vv_getR (pc := 22) X (fun _ z => by cases List.mem_singleton.mp z; exact fl_X9_29_7) dX9_isCandidate_22 (fun v7 => ?_)
    refine vv_aload_n (pc := 25) X (kf := 0) (i := 0) rfl 1 rfl dX9_isCandidate_25 ?_
    refine vv_getR (pc := 26) X (fun _ z => by cases List.mem_singleton.mp z; exact fl_X9_9_7) dX9_isCandidate_26 (fun v8 => ?_)
    refine vv_iload_n (pc := 29) X (kf := 1) (i := 1) rfl 2 rfl dX9_isCandidate_29 ?_
    refine vv_callI (pc := 30) (rest := [LR v8, LR v7]) (by rfl) (fun r8 k8 e8 => zz_callS X (m_X9_patternFrom (hlM X) _ _ _ _ e8) q3771 q3772 q164 q3773 nh_X9 rfl (by decide) (by decide) (Nat.le_of_ble_eq_true rfl) dX9_isCandidate_30) (fun v9 h10 => ?_)
    refine vv_iload_n (pc := 33) X (kf := 3) (i := 3) rfl 0 rfl dX9_isCandidate_33 ?_
    refine vv_callV (pc := 34) (rest := []) (by rfl) (fun r8 k8 e8 => zz_callS X (m_X9_counts0 (hlM X) _ _ _ _ _ _ _ e8) q3849 q3850 q164 q3851 nh_X9 rfl (by decide) (by decide) (Nat.le_of_ble_eq_true rfl) dX9_isCandidate_34) (fun v11 h12 => ?_)
    refine vv_aload_n (pc := 37) X (kf := 0) (i := 0) rfl 1 rfl dX9_isCandidate_37 ?_
    refine vv_getR (pc := 38) X (fun _ z => by cases List.mem_singleton.mp z; exact fl_X9_32_7) dX9_isCandidate_38 (fun v13 => ?_)
    refine vv_aload_n (pc := 41) X (kf := 0) (i := 0) rfl 1 rfl dX9_isCandidate_41 ?_
    refine vv_getR (pc := 42) X (fun _ z => by cases List.mem_singleton.mp z; exact fl_X9_9_7) dX9_isCandidate_42 (fun v14 => ?_)
    refine vv_iload_n (pc := 45) X (kf := 2) (i := 2) rfl 3 rfl dX9_isCandidate_45 ?_
    refine vv_callI (pc := 46) (rest := [LR v14, LR v13]) (by rfl) (fun r8 k8 e8 => zz_callS X (m_X9_textFrom (hlM X) _ _ _ _ e8) q3774 q3775 q164 q3776 nh_X9 rfl (by decide) (by decide) (Nat.le_of_ble_eq_true rfl) dX9_isCandidate_46) (fun v15 h16 => ?_)
    refine vv_iload_n (pc := 49) X (kf := 3) (i := 3) rfl 0 rfl dX9_isCandidate_49 ?_
    refine vv_callV (pc := 50) (rest := []) (by rfl) (fun r8 k8 e8 => zz_callS X (m_X9_counts0 (hlM X) _ _ _ _ _ _ _ e8) q3849 q3850 q164 q3851 nh_X9 rfl (by decide) (by decide) (Nat.le_of_ble_eq_true rfl) dX9_isCandidate_50) (fun v17 h18 => ?_)
    refine vv_iconst (pc := 53) X dX9_isCandidate_53 ?_
    refine vv_istore (pc := 54) (lv' := [(4, LI 0), (3, LI v1), (0, LR (some a0)), (1, LI a1), (2, LI a2)]) X (by decide) rfl dX9_isCandidate_54 ?_
    exact vv_sub [2, 0] (by rfl) (B_X9_isCandidate_56 X _ _ _)
  · refine vv_iconst (pc := 19) X dX9_isCandidate_19 ?_
    exact vv_iret0 X rfl rfl dX9_isCandidate_20
theorem m_X9_isCandidate {l : Launch} (hl : l.stackTraces = false) {G : va_G} (a0 : Nat) (a1 : Int) (a2 : Int) (h : HP) : ∀ r hf, f_X9_isCandidate a0 a1 a2 h = some (r, hf) → Ct l yX9_isCandidate (ws_ yX9_isCandidate cX9_isCandidate 5 (some .boolean)) 1 32 G h [.ref a0, .int (iI a1), .int (iI a2)] (jI r) hf :=
  zz_ofW hl (by decide +kernel) (lv := [(0, LR (some a0)), (1, LI a1), (2, LI a2)]) (by simp [lv_args, lvL, lvV, zz_rfc, zz_rfs, zz_ci, zz_cr, zz_cj, zz_cf, zz_cd]) (by simp [lg_sl, zz_rfc, zz_ci, zz_cr, zz_cj, zz_cf, zz_cd]) (fun _ X => A_X9_isCandidate X a0 a1 a2 h)
-- X9_candidates RenamedWordsModel.candidates(I)I
noncomputable def c_X9_candidates_4 (r4 : Option Nat → Int → Int → Int → HP → Option ((Int) × HP)) (x0 : Option Nat) (x1 : Int) (x2 : Int) (x3 : Int) (h : HP) : Option ((Int) × HP) :=
  (rdR h x0 [7] 0).bind fun v1 =>
  (aldI h .int v1 1).bind fun v2 =>
  iLE v2 x3
    (some (x2, h))
    ((rcv h x0 [7]).bind fun b5 =>
    hb (f_X9_isCandidate b5 x1 x3 h) fun v3 h4 =>
    hb (f_X9_one v3 h4) fun v7 h8 =>
    r4 x0 x1 (x2 + v7) (x3 + 1) h8)
noncomputable def b_X9_candidates_4 : Option Nat → Int → Int → Int → HP → Option ((Int) × HP) := fx (fun _ _ _ _ _ => none) (c_X9_candidates_4) FU
theorem C_X9_candidates_4 {M : hp_M} {G : va_G} {h0 : HP} (X : hp_X M G h0 "RenamedWordsModel" "candidates" cX9_candidates 4 (some .int) [] 2 64) (r4 : Option Nat → Int → Int → Int → HP → Option ((Int) × HP)) (hr4 : ∀ (y0 : Option Nat) (y1 : Int) (y2 : Int) (y3 : Int) (h : HP), vv M G h0 4 (hp_End M G h0) jI h 4 [(0, LR y0), (1, LI y1), (2, LI y2), (3, LI y3)] [] (r4 y0 y1 y2 y3 h)) (x0 : Option Nat) (x1 : Int) (x2 : Int) (x3 : Int) (h : HP) : vv M G h0 4 (hp_End M G h0) jI h 4 [(0, LR x0), (1, LI x1), (2, LI x2), (3, LI x3)] [] (c_X9_candidates_4 r4 x0 x1 x2 x3 h) := by
  unfold c_X9_candidates_4
  refine vv_iload_n (pc := 4) X (kf := 3) (i := 3) rfl 3 rfl dX9_candidates_4 ?_
  refine vv_aload_n (pc := 5) X (kf := 0) (i := 0) rfl 0 rfl dX9_candidates_5 ?_
  refine vv_getR (pc := 6) X (fun _ z => by cases List.mem_singleton.mp z; exact fl_X9_9_7) dX9_candidates_6 (fun v1 => ?_)
  refine vv_iconst (pc := 9) X dX9_candidates_9 ?_
  refine vv_iaload (pc := 10) X dX9_candidates_10 (fun v2 => ?_)
  refine vv_icmp_ge (pc := 11) (tgt := 32) X dX9_candidates_11 rfl ?_ ?_
  · refine vv_iload_n (pc := 32) X (kf := 2) (i := 2) rfl 2 rfl dX9_candidates_32 ?_
    exact vv_iretI X rfl rfl dX9_candidates_33
  · refine vv_iload_n (pc := 14) X (kf := 2) (i := 2) rfl 2 rfl dX9_candidates_14 ?_
    refine vv_aload_n (pc := 15) X (kf := 0) (i := 0) rfl 0 rfl dX9_candidates_15 ?_
    refine vv_iload_n (pc := 16) X (kf := 1) (i := 1) rfl 1 rfl dX9_candidates_16 ?_
    refine vv_iload_n (pc := 17) X (kf := 3) (i := 3) rfl 3 rfl dX9_candidates_17 ?_
    refine vv_rcv (fun b5 t9 c9 fs9 e6 g9 k9 => ?_)
    cases List.mem_singleton.mp k9
    refine vv_callI (pc := 18) (rest := [LI x2]) (by rw [e6]; rfl) (fun r8 k8 e8 => zz_callV X (m_X9_isCandidate (hlM X) _ _ _ _ _ _ e8) g9 rfl rfl q3896 q3898 qs118 q164 q3899 nh_X9 rfl (by decide) (by decide) (Nat.le_of_ble_eq_true rfl) dX9_candidates_18) (fun v3 h4 => ?_)
    refine vv_callI (pc := 21) (rest := [LI x2]) (by rfl) (fun r8 k8 e8 => zz_callS X (m_X9_one (hlM X) _ _ _ _ e8) q3559 q3560 q164 q3561 nh_X9 rfl (by decide) (by decide) (Nat.le_of_ble_eq_true rfl) dX9_candidates_21) (fun v7 h8 => ?_)
    refine vv_iadd (pc := 24) X dX9_candidates_24 ?_
    refine vv_istore_n (pc := 25) (lv' := [(2, LI (x2 + v7)), (0, LR x0), (1, LI x1), (3, LI x3)]) X (kf := 2) (i := 2) rfl (by decide) rfl dX9_candidates_25 ?_
    refine vv_iinc (pc := 26) (lv' := [(3, LI (x3 + 1)), (2, LI (x2 + v7)), (0, LR x0), (1, LI x1)]) X 3 rfl (by decide) rfl dX9_candidates_26 ?_
    refine vv_goto (pc := 29) (tgt := 4) X dX9_candidates_29 rfl ?_
    exact vv_sub [2, 3, 1, 0] (by rfl) (hr4 _ _ _ _ _)
theorem B_X9_candidates_4 {M : hp_M} {G : va_G} {h0 : HP} (X : hp_X M G h0 "RenamedWordsModel" "candidates" cX9_candidates 4 (some .int) [] 2 64) : ∀ (x0 : Option Nat) (x1 : Int) (x2 : Int) (x3 : Int) (h : HP), vv M G h0 4 (hp_End M G h0) jI h 4 [(0, LR x0), (1, LI x1), (2, LI x2), (3, LI x3)] [] (b_X9_candidates_4 x0 x1 x2 x3 h) := by
  unfold b_X9_candidates_4
  generalize FU = n
  induction n with
  | zero => intro x0 x1 x2 x3 h; exact vv_none
  | succ n ih => exact C_X9_candidates_4 X _ ih
noncomputable def f_X9_candidates (a0 : Nat) (a1 : Int) (h : HP) : Option ((Int) × HP) :=
  b_X9_candidates_4 (some a0) a1 0 0 h
theorem A_X9_candidates {M : hp_M} {G : va_G} {h0 : HP} (X : hp_X M G h0 "RenamedWordsModel" "candidates" cX9_candidates 4 (some .int) [] 2 64) (a0 : Nat) (a1 : Int) (h : HP) : vv M G h0 4 (hp_End M G h0) jI h 0 [(0, LR (some a0)), (1, LI a1)] [] (f_X9_candidates a0 a1 h) := by
  unfold f_X9_candidates
  refine vv_iconst (pc := 0) X dX9_candidates_0 ?_
  refine vv_istore_n (pc := 1) (lv' := [(2, LI 0), (0, LR (some a0)), (1, LI a1)]) X (kf := 2) (i := 2) rfl (by decide) rfl dX9_candidates_1 ?_
  refine vv_iconst (pc := 2) X dX9_candidates_2 ?_
  refine vv_istore_n (pc := 3) (lv' := [(3, LI 0), (2, LI 0), (0, LR (some a0)), (1, LI a1)]) X (kf := 3) (i := 3) rfl (by decide) rfl dX9_candidates_3 ?_
  exact vv_sub [2, 3, 1, 0] (by rfl) (B_X9_candidates_4 X _ _ _ _ _)
theorem m_X9_candidates {l : Launch} (hl : l.stackTraces = false) {G : va_G} (a0 : Nat) (a1 : Int) (h : HP) : ∀ r hf, f_X9_candidates a0 a1 h = some (r, hf) → Ct l yX9_candidates (ws_ yX9_candidates cX9_candidates 4 (some .int)) 2 64 G h [.ref a0, .int (iI a1)] (jI r) hf :=
  zz_ofW hl (by decide +kernel) (lv := [(0, LR (some a0)), (1, LI a1)]) (by simp [lv_args, lvL, lvV, zz_rfc, zz_rfs, zz_ci, zz_cr, zz_cj, zz_cf, zz_cd]) (by simp [lg_sl, zz_rfc, zz_ci, zz_cr, zz_cj, zz_cf, zz_cd]) (fun _ X => A_X9_candidates X a0 a1 h)
-- X9_pattern RenamedWordsModel.pattern(II)I
noncomputable def b_X9_pattern_36 (h : HP) : Option ((Int) × HP) :=
  some (0, h)
theorem B_X9_pattern_36 {M : hp_M} {G : va_G} {h0 : HP} (X : hp_X M G h0 "RenamedWordsModel" "pattern" cX9_pattern 4 (some .int) [] 7 214) (h : HP) : vv M G h0 4 (hp_End M G h0) jI h 36 [] [] (b_X9_pattern_36 h) := by
  unfold b_X9_pattern_36
  refine vv_iconst (pc := 36) X dX9_pattern_36 ?_
  exact vv_iretI X rfl rfl dX9_pattern_37
noncomputable def b_X9_pattern_29 (x0 : Option Nat) (x1 : Int) (x2 : Int) (s0 : Int) (s1 : Option Nat) (h : HP) : Option ((Int) × HP) :=
  (rcv h s1 [7]).bind fun b10 =>
  hb (f_X9_fails b10 s0 2 h) fun v8 h9 =>
  iEQ v8 0
    ((rcv h9 x0 [7]).bind fun b14 =>
    hb (f_X9_of b14 x1 0 h9) fun v12 h13 =>
    iIN x2
      (if x2 = 0 then
        some (v12, h13)
      else
      if x2 = 1 then
        hb (f_X9_patternFrom x1 h13) fun v16 h17 =>
        (rcv h17 x0 [7]).bind fun b20 =>
        hb (f_X9_unlike b20 v16 v12 0 h17) fun v18 h19 =>
        some (v18, h19)
      else
      if x2 = 2 then
        hb (f_X9_patternFrom x1 h13) fun v22 h23 =>
        (rcv h23 x0 [7]).bind fun b26 =>
        hb (f_X9_unlike b26 v22 v12 1 h23) fun v24 h25 =>
        some (v24, h25)
      else
      if x2 = 3 then
        hb (f_X9_patternFrom x1 h13) fun v28 h29 =>
        (rcv h29 x0 [7]).bind fun b32 =>
        hb (f_X9_borderOf b32 v28 v12 h29) fun v30 h31 =>
        some (v30, h31)
      else
      if x2 = 4 then
        hb (f_X9_patternFrom x1 h13) fun v34 h35 =>
        (rcv h35 x0 [7]).bind fun b38 =>
        hb (f_X9_borderOf b38 v34 v12 h35) fun v36 h37 =>
        some ((v12 - v36), h37)
      else
      if x2 = 5 then
        (rcv h13 x0 [7]).bind fun b42 =>
        hb (f_X9_marksOf b42 x1 h13) fun v40 h41 =>
        some (v40, h41)
      else
      if x2 = 6 then
        (rcv h13 x0 [7]).bind fun b46 =>
        hb (f_X9_hits b46 x1 h13) fun v44 h45 =>
        some (v44, h45)
      else
      (rcv h13 x0 [7]).bind fun b50 =>
      hb (f_X9_candidates b50 x1 h13) fun v48 h49 =>
      some (v48, h49)))
    (b_X9_pattern_36 h9)
theorem B_X9_pattern_29 {M : hp_M} {G : va_G} {h0 : HP} (X : hp_X M G h0 "RenamedWordsModel" "pattern" cX9_pattern 4 (some .int) [] 7 214) (x0 : Option Nat) (x1 : Int) (x2 : Int) (s0 : Int) (s1 : Option Nat) (h : HP) : vv M G h0 4 (hp_End M G h0) jI h 29 [(0, LR x0), (1, LI x1), (2, LI x2)] [LI s0, LR s1] (b_X9_pattern_29 x0 x1 x2 s0 s1 h) := by
  unfold b_X9_pattern_29
  refine vv_iconst (pc := 29) X dX9_pattern_29 ?_
  refine vv_rcv (fun b10 t9 c9 fs9 e11 g9 k9 => ?_)
  cases List.mem_singleton.mp k9
  refine vv_callI (pc := 30) (rest := []) (by rw [e11]; rfl) (fun r8 k8 e8 => zz_callV X (m_X9_fails (hlM X) _ _ _ _ _ _ e8) g9 rfl rfl q3841 q3843 qs109 q164 q3844 nh_X9 rfl (by decide) (by decide) (Nat.le_of_ble_eq_true rfl) dX9_pattern_30) (fun v8 h9 => ?_)
  refine vv_if_eq (pc := 33) (tgt := 38) X dX9_pattern_33 rfl ?_ ?_
  · refine vv_aload_n (pc := 38) X (kf := 0) (i := 0) rfl 0 rfl dX9_pattern_38 ?_
    refine vv_iload_n (pc := 39) X (kf := 1) (i := 1) rfl 1 rfl dX9_pattern_39 ?_
    refine vv_iconst (pc := 40) X dX9_pattern_40 ?_
    refine vv_rcv (fun b14 t9 c9 fs9 e15 g9 k9 => ?_)
    cases List.mem_singleton.mp k9
    refine vv_callI (pc := 41) (rest := []) (by rw [e15]; rfl) (fun r8 k8 e8 => zz_callV X (m_X9_of (hlM X) _ _ _ _ _ _ e8) g9 rfl rfl q3777 q3779 qs94 q164 q3780 nh_X9 rfl (by decide) (by decide) (Nat.le_of_ble_eq_true rfl) dX9_pattern_41) (fun v12 h13 => ?_)
    refine vv_istore_n (pc := 44) (lv' := [(3, LI v12), (0, LR x0), (1, LI x1), (2, LI x2)]) X (kf := 3) (i := 3) rfl (by decide) rfl dX9_pattern_44 ?_
    refine vv_iload_n (pc := 45) X (kf := 2) (i := 2) rfl 3 rfl dX9_pattern_45 ?_
    refine vv_iIN (fun hr => ?_)
    refine vv_if (fun e0 => ?_) (fun e0 => ?_)
    · refine vv_tsw (pc := 46) (off := 42) (tgt := 88) X dX9_pattern_46 hr (by omega) (by omega) (by rw [e0]; rfl) rfl ?_
      refine vv_iload_n (pc := 88) X (kf := 3) (i := 3) rfl 0 rfl dX9_pattern_88 ?_
      exact vv_iretI X rfl rfl dX9_pattern_89
    refine vv_if (fun e1 => ?_) (fun e1 => ?_)
    · refine vv_tsw (pc := 46) (off := 44) (tgt := 90) X dX9_pattern_46 hr (by omega) (by omega) (by rw [e1]; rfl) rfl ?_
      refine vv_aload_n (pc := 90) X (kf := 0) (i := 0) rfl 1 rfl dX9_pattern_90 ?_
      refine vv_iload_n (pc := 91) X (kf := 1) (i := 1) rfl 2 rfl dX9_pattern_91 ?_
      refine vv_callI (pc := 92) (rest := [LR x0]) (by rfl) (fun r8 k8 e8 => zz_callS X (m_X9_patternFrom (hlM X) _ _ _ _ e8) q3771 q3772 q164 q3773 nh_X9 rfl (by decide) (by decide) (Nat.le_of_ble_eq_true rfl) dX9_pattern_92) (fun v16 h17 => ?_)
      refine vv_iload_n (pc := 95) X (kf := 3) (i := 3) rfl 0 rfl dX9_pattern_95 ?_
      refine vv_iconst (pc := 96) X dX9_pattern_96 ?_
      refine vv_rcv (fun b20 t9 c9 fs9 e21 g9 k9 => ?_)
      cases List.mem_singleton.mp k9
      refine vv_callI (pc := 97) (rest := []) (by rw [e21]; rfl) (fun r8 k8 e8 => zz_callV X (m_X9_unlike (hlM X) _ _ _ _ _ _ _ e8) g9 rfl rfl q3845 q3847 qs110 q164 q3848 nh_X9 rfl (by decide) (by decide) (Nat.le_of_ble_eq_true rfl) dX9_pattern_97) (fun v18 h19 => ?_)
      exact vv_iretI X rfl rfl dX9_pattern_100
    refine vv_if (fun e2 => ?_) (fun e2 => ?_)
    · refine vv_tsw (pc := 46) (off := 55) (tgt := 101) X dX9_pattern_46 hr (by omega) (by omega) (by rw [e2]; rfl) rfl ?_
      refine vv_aload_n (pc := 101) X (kf := 0) (i := 0) rfl 1 rfl dX9_pattern_101 ?_
      refine vv_iload_n (pc := 102) X (kf := 1) (i := 1) rfl 2 rfl dX9_pattern_102 ?_
      refine vv_callI (pc := 103) (rest := [LR x0]) (by rfl) (fun r8 k8 e8 => zz_callS X (m_X9_patternFrom (hlM X) _ _ _ _ e8) q3771 q3772 q164 q3773 nh_X9 rfl (by decide) (by decide) (Nat.le_of_ble_eq_true rfl) dX9_pattern_103) (fun v22 h23 => ?_)
      refine vv_iload_n (pc := 106) X (kf := 3) (i := 3) rfl 0 rfl dX9_pattern_106 ?_
      refine vv_iconst (pc := 107) X dX9_pattern_107 ?_
      refine vv_rcv (fun b26 t9 c9 fs9 e27 g9 k9 => ?_)
      cases List.mem_singleton.mp k9
      refine vv_callI (pc := 108) (rest := []) (by rw [e27]; rfl) (fun r8 k8 e8 => zz_callV X (m_X9_unlike (hlM X) _ _ _ _ _ _ _ e8) g9 rfl rfl q3845 q3847 qs110 q164 q3848 nh_X9 rfl (by decide) (by decide) (Nat.le_of_ble_eq_true rfl) dX9_pattern_108) (fun v24 h25 => ?_)
      exact vv_iretI X rfl rfl dX9_pattern_111
    refine vv_if (fun e3 => ?_) (fun e3 => ?_)
    · refine vv_tsw (pc := 46) (off := 66) (tgt := 112) X dX9_pattern_46 hr (by omega) (by omega) (by rw [e3]; rfl) rfl ?_
      refine vv_aload_n (pc := 112) X (kf := 0) (i := 0) rfl 1 rfl dX9_pattern_112 ?_
      refine vv_iload_n (pc := 113) X (kf := 1) (i := 1) rfl 2 rfl dX9_pattern_113 ?_
      refine vv_callI (pc := 114) (rest := [LR x0]) (by rfl) (fun r8 k8 e8 => zz_callS X (m_X9_patternFrom (hlM X) _ _ _ _ e8) q3771 q3772 q164 q3773 nh_X9 rfl (by decide) (by decide) (Nat.le_of_ble_eq_true rfl) dX9_pattern_114) (fun v28 h29 => ?_)
      refine vv_iload_n (pc := 117) X (kf := 3) (i := 3) rfl 0 rfl dX9_pattern_117 ?_
      refine vv_rcv (fun b32 t9 c9 fs9 e33 g9 k9 => ?_)
      cases List.mem_singleton.mp k9
      refine vv_callI (pc := 118) (rest := []) (by rw [e33]; rfl) (fun r8 k8 e8 => zz_callV X (m_X9_borderOf (hlM X) _ _ _ _ _ _ e8) g9 rfl rfl q3880 q3882 qs114 q164 q3883 nh_X9 rfl (by decide) (by decide) (Nat.le_of_ble_eq_true rfl) dX9_pattern_118) (fun v30 h31 => ?_)
      exact vv_iretI X rfl rfl dX9_pattern_121
    refine vv_if (fun e4 => ?_) (fun e4 => ?_)
    · refine vv_tsw (pc := 46) (off := 76) (tgt := 122) X dX9_pattern_46 hr (by omega) (by omega) (by rw [e4]; rfl) rfl ?_
      refine vv_iload_n (pc := 122) X (kf := 3) (i := 3) rfl 0 rfl dX9_pattern_122 ?_
      refine vv_aload_n (pc := 123) X (kf := 0) (i := 0) rfl 1 rfl dX9_pattern_123 ?_
      refine vv_iload_n (pc := 124) X (kf := 1) (i := 1) rfl 2 rfl dX9_pattern_124 ?_
      refine vv_callI (pc := 125) (rest := [LR x0, LI v12]) (by rfl) (fun r8 k8 e8 => zz_callS X (m_X9_patternFrom (hlM X) _ _ _ _ e8) q3771 q3772 q164 q3773 nh_X9 rfl (by decide) (by decide) (Nat.le_of_ble_eq_true rfl) dX9_pattern_125) (fun v34 h35 => ?_)
      refine vv_iload_n (pc := 128) X (kf := 3) (i := 3) rfl 0 rfl dX9_pattern_128 ?_
      refine vv_rcv (fun b38 t9 c9 fs9 e39 g9 k9 => ?_)
      cases List.mem_singleton.mp k9
      refine vv_callI (pc := 129) (rest := [LI v12]) (by rw [e39]; rfl) (fun r8 k8 e8 => zz_callV X (m_X9_borderOf (hlM X) _ _ _ _ _ _ e8) g9 rfl rfl q3880 q3882 qs114 q164 q3883 nh_X9 rfl (by decide) (by decide) (Nat.le_of_ble_eq_true rfl) dX9_pattern_129) (fun v36 h37 => ?_)
      refine vv_isub (pc := 132) X dX9_pattern_132 ?_
      exact vv_iretI X rfl rfl dX9_pattern_133
    refine vv_if (fun e5 => ?_) (fun e5 => ?_)
    · refine vv_tsw (pc := 46) (off := 88) (tgt := 134) X dX9_pattern_46 hr (by omega) (by omega) (by rw [e5]; rfl) rfl ?_
      refine vv_aload_n (pc := 134) X (kf := 0) (i := 0) rfl 1 rfl dX9_pattern_134 ?_
      refine vv_iload_n (pc := 135) X (kf := 1) (i := 1) rfl 2 rfl dX9_pattern_135 ?_
      refine vv_rcv (fun b42 t9 c9 fs9 e43 g9 k9 => ?_)
      cases List.mem_singleton.mp k9
      refine vv_callI (pc := 136) (rest := []) (by rw [e43]; rfl) (fun r8 k8 e8 => zz_callV X (m_X9_marksOf (hlM X) _ _ _ _ _ e8) g9 rfl rfl q3888 q3890 qs116 q164 q3891 nh_X9 rfl (by decide) (by decide) (Nat.le_of_ble_eq_true rfl) dX9_pattern_136) (fun v40 h41 => ?_)
      exact vv_iretI X rfl rfl dX9_pattern_139
    refine vv_if (fun e6 => ?_) (fun e6 => ?_)
    · refine vv_tsw (pc := 46) (off := 94) (tgt := 140) X dX9_pattern_46 hr (by omega) (by omega) (by rw [e6]; rfl) rfl ?_
      refine vv_aload_n (pc := 140) X (kf := 0) (i := 0) rfl 1 rfl dX9_pattern_140 ?_
      refine vv_iload_n (pc := 141) X (kf := 1) (i := 1) rfl 2 rfl dX9_pattern_141 ?_
      refine vv_rcv (fun b46 t9 c9 fs9 e47 g9 k9 => ?_)
      cases List.mem_singleton.mp k9
      refine vv_callI (pc := 142) (rest := []) (by rw [e47]; rfl) (fun r8 k8 e8 => zz_callV X (m_X9_hits (hlM X) _ _ _ _ _ e8) g9 rfl rfl q3829 q3831 qs107 q164 q3832 nh_X9 rfl (by decide) (by decide) (Nat.le_of_ble_eq_true rfl) dX9_pattern_142) (fun v44 h45 => ?_)
      exact vv_iretI X rfl rfl dX9_pattern_145
    refine vv_tswD (pc := 46) (tgt := 146) X dX9_pattern_46 hr (by omega) rfl ?_
    refine vv_aload_n (pc := 146) X (kf := 0) (i := 0) rfl 1 rfl dX9_pattern_146 ?_
    refine vv_iload_n (pc := 147) X (kf := 1) (i := 1) rfl 2 rfl dX9_pattern_147 ?_
    refine vv_rcv (fun b50 t9 c9 fs9 e51 g9 k9 => ?_)
    cases List.mem_singleton.mp k9
    refine vv_callI (pc := 148) (rest := []) (by rw [e51]; rfl) (fun r8 k8 e8 => zz_callV X (m_X9_candidates (hlM X) _ _ _ _ _ e8) g9 rfl rfl q3892 q3894 qs117 q164 q3895 nh_X9 rfl (by decide) (by decide) (Nat.le_of_ble_eq_true rfl) dX9_pattern_148) (fun v48 h49 => ?_)
    exact vv_iretI X rfl rfl dX9_pattern_151
  · exact vv_sub [] (by rfl) (B_X9_pattern_36 X _)
noncomputable def f_X9_pattern (a0 : Nat) (a1 : Int) (a2 : Int) (h : HP) : Option ((Int) × HP) :=
  (wrI h (some a0) [7] 7 0).bind fun h1 =>
  (rcv h1 (some a0) [7]).bind fun b4 =>
  hb (f_X9_noPattern b4 a1 h1) fun v2 h3 =>
  iEQ v2 0
    (hb (f_X9_in a2 0 7 h3) fun v6 h7 =>
    iEQ v6 0
      (b_X9_pattern_29 (some a0) a1 a2 1 (some a0) h7)
      (b_X9_pattern_29 (some a0) a1 a2 0 (some a0) h7))
    (b_X9_pattern_36 h3)
theorem A_X9_pattern {M : hp_M} {G : va_G} {h0 : HP} (X : hp_X M G h0 "RenamedWordsModel" "pattern" cX9_pattern 4 (some .int) [] 7 214) (a0 : Nat) (a1 : Int) (a2 : Int) (h : HP) : vv M G h0 4 (hp_End M G h0) jI h 0 [(0, LR (some a0)), (1, LI a1), (2, LI a2)] [] (f_X9_pattern a0 a1 a2 h) := by
  unfold f_X9_pattern
  refine vv_aload_n (pc := 0) X (kf := 0) (i := 0) rfl 0 rfl dX9_pattern_0 ?_
  refine vv_iconst (pc := 1) X dX9_pattern_1 ?_
  refine vv_putI (pc := 2) (fin := false) X (fun _ z => by cases List.mem_singleton.mp z; exact fl_X9_69_7) (fun z => nomatch z) (fun z => nomatch z) dX9_pattern_2 (fun h1 => ?_)
  refine vv_aload_n (pc := 5) X (kf := 0) (i := 0) rfl 0 rfl dX9_pattern_5 ?_
  refine vv_iload_n (pc := 6) X (kf := 1) (i := 1) rfl 1 rfl dX9_pattern_6 ?_
  refine vv_rcv (fun b4 t9 c9 fs9 e5 g9 k9 => ?_)
  cases List.mem_singleton.mp k9
  refine vv_callI (pc := 7) (rest := []) (by rw [e5]; rfl) (fun r8 k8 e8 => zz_callV X (m_X9_noPattern (hlM X) _ _ _ _ _ e8) g9 rfl rfl q3876 q3878 qs113 q164 q3879 nh_X9 rfl (by decide) (by decide) (Nat.le_of_ble_eq_true rfl) dX9_pattern_7) (fun v2 h3 => ?_)
  refine vv_if_ne (pc := 10) (tgt := 36) X dX9_pattern_10 rfl ?_ ?_
  · exact vv_sub [] (by rfl) (B_X9_pattern_36 X _)
  · refine vv_aload_n (pc := 13) X (kf := 0) (i := 0) rfl 0 rfl dX9_pattern_13 ?_
    refine vv_iload_n (pc := 14) X (kf := 2) (i := 2) rfl 2 rfl dX9_pattern_14 ?_
    refine vv_iconst (pc := 15) X dX9_pattern_15 ?_
    refine vv_bipush (pc := 16) X (by decide) dX9_pattern_16 ?_
    refine vv_callI (pc := 18) (rest := [LR (some a0)]) (by rfl) (fun r8 k8 e8 => zz_callS X (m_X9_in (hlM X) _ _ _ _ _ _ e8) q3593 q3594 q164 q3595 nh_X9 rfl (by decide) (by decide) (Nat.le_of_ble_eq_true rfl) dX9_pattern_18) (fun v6 h7 => ?_)
    refine vv_if_ne (pc := 21) (tgt := 28) X dX9_pattern_21 rfl ?_ ?_
    · refine vv_iconst (pc := 28) X dX9_pattern_28 ?_
      exact B_X9_pattern_29 X _ _ _ _ _ _
    · refine vv_iconst (pc := 24) X dX9_pattern_24 ?_
      refine vv_goto (pc := 25) (tgt := 29) X dX9_pattern_25 rfl ?_
      exact B_X9_pattern_29 X _ _ _ _ _ _
theorem m_X9_pattern {l : Launch} (hl : l.stackTraces = false) {G : va_G} (a0 : Nat) (a1 : Int) (a2 : Int) (h : HP) : ∀ r hf, f_X9_pattern a0 a1 a2 h = some (r, hf) → Ct l yX9_pattern (ws_ yX9_pattern cX9_pattern 4 (some .int)) 7 214 G h [.ref a0, .int (iI a1), .int (iI a2)] (jI r) hf :=
  zz_ofW hl (by decide +kernel) (lv := [(0, LR (some a0)), (1, LI a1), (2, LI a2)]) (by simp [lv_args, lvL, lvV, zz_rfc, zz_rfs, zz_ci, zz_cr, zz_cj, zz_cf, zz_cd]) (by simp [lg_sl, zz_rfc, zz_ci, zz_cr, zz_cj, zz_cf, zz_cd]) (fun _ X => A_X9_pattern X a0 a1 a2 h)
