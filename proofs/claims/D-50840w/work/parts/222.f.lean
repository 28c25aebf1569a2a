/-! STAGE 1c: functions and contracts (printed by gen/mkfuncs.py). -/
set_option maxRecDepth 100000
set_option linter.unusedVariables false
-- X24_does RenamedWords$ScriptReader$6.does()I
noncomputable def f_X24_does (a0 : Nat) (h : HP) : Option ((Int) × HP) :=
  (rdR h (some a0) [19] 4).bind fun v1 =>
  (rdR h v1 [12] 9).bind fun v2 =>
  (rdR h v2 [0] 0).bind fun v3 =>
  (rdI h (some a0) [19] 1).bind fun v4 =>
  (rdI h (some a0) [19] 2).bind fun v5 =>
  (rdI h (some a0) [19] 3).bind fun v6 =>
  (rcv h v3 [1]).bind fun b9 =>
  hb (f_X2_takes b9 v4 v5 v6 h) fun v7 h8 =>
  some (v7, h8)
theorem A_X24_does {M : hp_M} {G : va_G} {h0 : HP} (X : hp_X M G h0 "RenamedWords$ScriptReader$6" "does" cX24_does 1 (some .int) [] 10 307) (a0 : Nat) (h : HP) : vv M G h0 1 (hp_End M G h0) jI h 0 [(0, LR (some a0))] [] (f_X24_does a0 h) := by
  unfold f_X24_does
  refine vv_aload_n (pc := 0) X (kf := 0) (i := 0) rfl 0 rfl dX24_does_0 ?_
  refine vv_getR (pc := 1) X (fun _ z => by cases List.mem_singleton.mp z; exact fl_X24_1_19) dX24_does_1 (fun v1 => ?_)
  refine vv_getR (pc := 4) X (fun _ z => by cases List.mem_singleton.mp z; exact fl_X24_17_12) dX24_does_4 (fun v2 => ?_)
  refine vv_getR (pc := 7) X (fun _ z => by cases List.mem_singleton.mp z; exact fl_X24_29_0) dX24_does_7 (fun v3 => ?_)
  refine vv_aload_n (pc := 10) X (kf := 0) (i := 0) rfl 0 rfl dX24_does_10 ?_
  refine vv_getI (pc := 11) X (fun _ z => by cases List.mem_singleton.mp z; exact fl_X24_7_19) dX24_does_11 (fun v4 => ?_)
  refine vv_aload_n (pc := 14) X (kf := 0) (i := 0) rfl 0 rfl dX24_does_14 ?_
  refine vv_getI (pc := 15) X (fun _ z => by cases List.mem_singleton.mp z; exact fl_X24_11_19) dX24_does_15 (fun v5 => ?_)
  refine vv_aload_n (pc := 18) X (kf := 0) (i := 0) rfl 0 rfl dX24_does_18 ?_
  refine vv_getI (pc := 19) X (fun _ z => by cases List.mem_singleton.mp z; exact fl_X24_14_19) dX24_does_19 (fun v6 => ?_)
  refine vv_rcv (fun b9 t9 c9 fs9 e10 g9 k9 => ?_)
  cases List.mem_singleton.mp k9
  refine vv_callI (pc := 22) (rest := []) (by rw [e10]; rfl) (fun r8 k8 e8 => zz_callV X (m_X2_takes (hlM X) _ _ _ _ _ _ _ e8) g9 rfl rfl q2803 q2804 q2805 q133 q2806 nh_X2 rfl (by decide) (by decide) (Nat.le_of_ble_eq_true rfl) dX24_does_22) (fun v7 h8 => ?_)
  exact vv_iretI X rfl rfl dX24_does_25
theorem m_X24_does {l : Launch} (hl : l.stackTraces = false) {G : va_G} (a0 : Nat) (h : HP) : ∀ r hf, f_X24_does a0 h = some (r, hf) → Ct l yX24_does (ws_ yX24_does cX24_does 1 (some .int)) 10 307 G h [.ref a0] (jI r) hf :=
  zz_ofW hl (by decide +kernel) (lv := [(0, LR (some a0))]) (by simp [lv_args, lvL, lvV, zz_rfc, zz_rfs, zz_ci, zz_cr, zz_cj, zz_cf, zz_cd]) (by simp [lg_sl, zz_rfc, zz_ci, zz_cr, zz_cj, zz_cf, zz_cd]) (fun _ X => A_X24_does X a0 h)
-- X2_firms RenamedWords$Desk.firms(I)I
noncomputable def f_X2_firms (a0 : Nat) (a1 : Int) (h : HP) : Option ((Int) × HP) :=
  (rdI h (some a0) [1] 7).bind fun v1 =>
  (wrI h (some a0) [1] 7 a1).bind fun h2 =>
  (rcv h2 (some a0) [1]).bind fun b5 =>
  hb (f_X2_cleans b5 h2) fun _ h4 =>
  some (v1, h4)
theorem A_X2_firms {M : hp_M} {G : va_G} {h0 : HP} (X : hp_X M G h0 "RenamedWords$Desk" "firms" cX2_firms 3 (some .int) [] 9 274) (a0 : Nat) (a1 : Int) (h : HP) : vv M G h0 3 (hp_End M G h0) jI h 0 [(0, LR (some a0)), (1, LI a1)] [] (f_X2_firms a0 a1 h) := by
  unfold f_X2_firms
  refine vv_aload_n (pc := 0) X (kf := 0) (i := 0) rfl 0 rfl dX2_firms_0 ?_
  refine vv_getI (pc := 1) X (fun _ z => by cases List.mem_singleton.mp z; exact fl_X2_108_1) dX2_firms_1 (fun v1 => ?_)
  refine vv_istore_n (pc := 4) (lv' := [(2, LI v1), (0, LR (some a0)), (1, LI a1)]) X (kf := 2) (i := 2) rfl (by decide) rfl dX2_firms_4 ?_
  refine vv_aload_n (pc := 5) X (kf := 0) (i := 0) rfl 1 rfl dX2_firms_5 ?_
  refine vv_iload_n (pc := 6) X (kf := 1) (i := 1) rfl 2 rfl dX2_firms_6 ?_
  refine vv_putI (pc := 7) (fin := false) X (fun _ z => by cases List.mem_singleton.mp z; exact fl_X2_108_1) (fun z => nomatch z) (fun z => nomatch z) dX2_firms_7 (fun h2 => ?_)
  refine vv_aload_n (pc := 10) X (kf := 0) (i := 0) rfl 1 rfl dX2_firms_10 ?_
  refine vv_rcv (fun b5 t9 c9 fs9 e6 g9 k9 => ?_)
  cases List.mem_singleton.mp k9
  refine vv_callV (pc := 11) (rest := []) (by rw [e6]; rfl) (fun r8 k8 e8 => zz_callV X (m_X2_cleans (hlM X) _ _ _ _ e8) g9 rfl rfl q2592 q2594 qs35 q133 q2595 nh_X2 rfl (by decide) (by decide) (Nat.le_of_ble_eq_true rfl) dX2_firms_11) (fun v3 h4 => ?_)
  refine vv_iload_n (pc := 14) X (kf := 2) (i := 2) rfl 0 rfl dX2_firms_14 ?_
  exact vv_iretI X rfl rfl dX2_firms_15
theorem m_X2_firms {l : Launch} (hl : l.stackTraces = false) {G : va_G} (a0 : Nat) (a1 : Int) (h : HP) : ∀ r hf, f_X2_firms a0 a1 h = some (r, hf) → Ct l yX2_firms (ws_ yX2_firms cX2_firms 3 (some .int)) 9 274 G h [.ref a0, .int (iI a1)] (jI r) hf :=
  zz_ofW hl (by decide +kernel) (lv := [(0, LR (some a0)), (1, LI a1)]) (by simp [lv_args, lvL, lvV, zz_rfc, zz_rfs, zz_ci, zz_cr, zz_cj, zz_cf, zz_cd]) (by simp [lg_sl, zz_rfc, zz_ci, zz_cr, zz_cj, zz_cf, zz_cd]) (fun _ X => A_X2_firms X a0 a1 h)
-- X25_does RenamedWords$ScriptReader$7.does()I
noncomputable def f_X25_does (a0 : Nat) (h : HP) : Option ((Int) × HP) :=
  (rdR h (some a0) [20] 2).bind fun v1 =>
  (rdR h v1 [12] 9).bind fun v2 =>
  (rdR h v2 [0] 0).bind fun v3 =>
  (rdI h (some a0) [20] 1).bind fun v4 =>
  (rcv h v3 [1]).bind fun b7 =>
  hb (f_X2_firms b7 v4 h) fun v5 h6 =>
  some (v5, h6)
theorem A_X25_does {M : hp_M} {G : va_G} {h0 : HP} (X : hp_X M G h0 "RenamedWords$ScriptReader$7" "does" cX25_does 1 (some .int) [] 10 304) (a0 : Nat) (h : HP) : vv M G h0 1 (hp_End M G h0) jI h 0 [(0, LR (some a0))] [] (f_X25_does a0 h) := by
  unfold f_X25_does
  refine vv_aload_n (pc := 0) X (kf := 0) (i := 0) rfl 0 rfl dX25_does_0 ?_
  refine vv_getR (pc := 1) X (fun _ z => by cases List.mem_singleton.mp z; exact fl_X25_1_20) dX25_does_1 (fun v1 => ?_)
  refine vv_getR (pc := 4) X (fun _ z => by cases List.mem_singleton.mp z; exact fl_X25_11_12) dX25_does_4 (fun v2 => ?_)
  refine vv_getR (pc := 7) X (fun _ z => by cases List.mem_singleton.mp z; exact fl_X25_23_0) dX25_does_7 (fun v3 => ?_)
  refine vv_aload_n (pc := 10) X (kf := 0) (i := 0) rfl 0 rfl dX25_does_10 ?_
  refine vv_getI (pc := 11) X (fun _ z => by cases List.mem_singleton.mp z; exact fl_X25_7_20) dX25_does_11 (fun v4 => ?_)
  refine vv_rcv (fun b7 t9 c9 fs9 e8 g9 k9 => ?_)
  cases List.mem_singleton.mp k9
  refine vv_callI (pc := 14) (rest := []) (by rw [e8]; rfl) (fun r8 k8 e8 => zz_callV X (m_X2_firms (hlM X) _ _ _ _ _ e8) g9 rfl rfl q2816 q2817 q2818 q133 q2819 nh_X2 rfl (by decide) (by decide) (Nat.le_of_ble_eq_true rfl) dX25_does_14) (fun v5 h6 => ?_)
  exact vv_iretI X rfl rfl dX25_does_17
theorem m_X25_does {l : Launch} (hl : l.stackTraces = false) {G : va_G} (a0 : Nat) (h : HP) : ∀ r hf, f_X25_does a0 h = some (r, hf) → Ct l yX25_does (ws_ yX25_does cX25_does 1 (some .int)) 10 304 G h [.ref a0] (jI r) hf :=
  zz_ofW hl (by decide +kernel) (lv := [(0, LR (some a0))]) (by simp [lv_args, lvL, lvV, zz_rfc, zz_rfs, zz_ci, zz_cr, zz_cj, zz_cf, zz_cd]) (by simp [lg_sl, zz_rfc, zz_ci, zz_cr, zz_cj, zz_cf, zz_cd]) (fun _ X => A_X25_does X a0 h)
-- X18_goes RenamedWords$Deed.goes()Z
noncomputable def dsp_Deed_does_14_15_16_17_18_19_20 (b : Nat)  (h : HP) : Option ((Int) × HP) := (clsOf h b).bind fun c => if c = 14 then f_X19_does b  h else if c = 15 then f_X20_does b  h else if c = 16 then f_X21_does b  h else if c = 17 then f_X22_does b  h else if c = 18 then f_X23_does b  h else if c = 19 then f_X24_does b  h else if c = 20 then f_X25_does b  h else none
theorem Zdsp_Deed_does_14_15_16_17_18_19_20 {M : hp_M} {G : va_G} {h0 h : HP} {own nm : String} {cc : ByteArray} {nL F L : Nat} {ret : Option FieldType} {tb : List ExceptionTableEntry} (X : hp_X M G h0 own nm cc nL ret tb F L) {b ix pc : Nat}  {rest : List Value} (q1 : Cond.methodLink own ix (⟨"RenamedWords$Deed", "does", "()I"⟩ : MethodName) ∈ lw_all) (d : decode cc pc = .ok (.invokevirtual ix, 3)) (hF : 11 ≤ F) (hL : 338 ≤ L) (hr : rest.length ≤ 8) {r8 : Int} {k8 : HP} (e : dsp_Deed_does_14_15_16_17_18_19_20 b  h = some (r8, k8)) : zz_run M G h0 nL h pc (pc + 3) ([].reverse ++ .ref b :: rest) rest (jI r8) k8 := by
  unfold dsp_Deed_does_14_15_16_17_18_19_20 at e
  obtain ⟨c, hc, e⟩ := Option.bind_eq_some_iff.mp e
  obtain ⟨t9, fs9, g9⟩ := clsOf_some hc
  by_cases z0 : c = 14
  · subst z0
    have e8 : f_X19_does b  h = some (r8, k8) := by simpa using e
    exact zz_callU X (m_X19_does (hlM X) _ _ _ _ e8) g9 rfl q1 q2575 (va_Decl.abs (X.2.1.2.1 _ q2574 rfl)) (by decide) q2577 q2576 q184 q2578 rfl (by omega) (by omega) hr d
  by_cases z1 : c = 15
  · subst z1
    have e8 : f_X20_does b  h = some (r8, k8) := by simpa using e
    exact zz_callU X (m_X20_does (hlM X) _ _ _ _ e8) g9 rfl q1 q2575 (va_Decl.abs (X.2.1.2.1 _ q2574 rfl)) (by decide) q2764 q2763 q185 q2765 rfl (by omega) (by omega) hr d
  by_cases z2 : c = 16
  · subst z2
    have e8 : f_X21_does b  h = some (r8, k8) := by simpa using e
    exact zz_callU X (m_X21_does (hlM X) _ _ _ _ e8) g9 rfl q1 q2575 (va_Decl.abs (X.2.1.2.1 _ q2574 rfl)) (by decide) q2775 q2774 q186 q2776 rfl (by omega) (by omega) hr d
  by_cases z3 : c = 17
  · subst z3
    have e8 : f_X22_does b  h = some (r8, k8) := by simpa using e
    exact zz_callU X (m_X22_does (hlM X) _ _ _ _ e8) g9 rfl q1 q2575 (va_Decl.abs (X.2.1.2.1 _ q2574 rfl)) (by decide) q2782 q2781 q187 q2783 rfl (by omega) (by omega) hr d
  by_cases z4 : c = 18
  · subst z4
    have e8 : f_X23_does b  h = some (r8, k8) := by simpa using e
    exact zz_callU X (m_X23_does (hlM X) _ _ _ _ e8) g9 rfl q1 q2575 (va_Decl.abs (X.2.1.2.1 _ q2574 rfl)) (by decide) q2789 q2788 q188 q2790 rfl (by omega) (by omega) hr d
  by_cases z5 : c = 19
  · subst z5
    have e8 : f_X24_does b  h = some (r8, k8) := by simpa using e
    exact zz_callU X (m_X24_does (hlM X) _ _ _ _ e8) g9 rfl q1 q2575 (va_Decl.abs (X.2.1.2.1 _ q2574 rfl)) (by decide) q2801 q2800 q189 q2802 rfl (by omega) (by omega) hr d
  by_cases z6 : c = 20
  · subst z6
    have e8 : f_X25_does b  h = some (r8, k8) := by simpa using e
    exact zz_callU X (m_X25_does (hlM X) _ _ _ _ e8) g9 rfl q1 q2575 (va_Decl.abs (X.2.1.2.1 _ q2574 rfl)) (by decide) q2814 q2813 q190 q2815 rfl (by omega) (by omega) hr d
  simp [z0, z1, z2, z3, z4, z5, z6] at e

noncomputable def b_X18_goes_50 (s0 : Int) (h : HP) : Option ((Int) × HP) :=
  rtZ s0 (some (s0, h))
theorem B_X18_goes_50 {M : hp_M} {G : va_G} {h0 : HP} (X : hp_X M G h0 "RenamedWords$Deed" "goes" cX18_goes 2 (some .boolean) [] 11 338) (s0 : Int) (h : HP) : vv M G h0 2 (hp_End M G h0) jI h 50 [] [LI s0] (b_X18_goes_50 s0 h) := by
  unfold b_X18_goes_50
  exact vv_iretZ X rfl rfl dX18_goes_50
noncomputable def b_X18_goes_49 (h : HP) : Option ((Int) × HP) :=
  b_X18_goes_50 0 h
theorem B_X18_goes_49 {M : hp_M} {G : va_G} {h0 : HP} (X : hp_X M G h0 "RenamedWords$Deed" "goes" cX18_goes 2 (some .boolean) [] 11 338) (h : HP) : vv M G h0 2 (hp_End M G h0) jI h 49 [] [] (b_X18_goes_49 h) := by
  unfold b_X18_goes_49
  refine vv_iconst (pc := 49) X dX18_goes_49 ?_
  exact B_X18_goes_50 X _ _
noncomputable def b_X18_goes_22 (x0 : Option Nat) (x1 : Int) (s0 : Int) (s1 : Int) (s2 : Option Nat) (h : HP) : Option ((Int) × HP) :=
  hb (f_X1_one s0 h) fun v7 h8 =>
  (wrI h8 s2 [0] 7 (s1 + v7)).bind fun h9 =>
  iLT x1 0
    (b_X18_goes_49 h9)
    ((rdR h9 x0 [14, 15, 16, 17, 18, 19, 20] 0).bind fun v10 =>
    (rdI h9 v10 [0] 7).bind fun v11 =>
    iLE 40 v11
      (b_X18_goes_49 h9)
      (b_X18_goes_50 1 h9))
theorem B_X18_goes_22 {M : hp_M} {G : va_G} {h0 : HP} (X : hp_X M G h0 "RenamedWords$Deed" "goes" cX18_goes 2 (some .boolean) [] 11 338) (x0 : Option Nat) (x1 : Int) (s0 : Int) (s1 : Int) (s2 : Option Nat) (h : HP) : vv M G h0 2 (hp_End M G h0) jI h 22 [(0, LR x0), (1, LI x1)] [LI s0, LI s1, LR s2] (b_X18_goes_22 x0 x1 s0 s1 s2 h) := by
  unfold b_X18_goes_22
  refine vv_callI (pc := 22) (rest := [LI s1, LR s2]) (by rfl) (fun r8 k8 e8 => zz_callSN X (m_X1_one (hlM X) _ _ _ _ e8) q2820 q836 q132 q837 nh_X1 rfl (by decide) (by decide) (Nat.le_of_ble_eq_true rfl) dX18_goes_22) (fun v7 h8 => ?_)
  refine vv_iadd (pc := 25) X dX18_goes_25 ?_
  refine vv_putI (pc := 26) (fin := false) X (fun _ z => by cases List.mem_singleton.mp z; exact fl_X18_19_0) (fun z => nomatch z) (fun z => nomatch z) dX18_goes_26 (fun h9 => ?_)
  refine vv_iload_n (pc := 29) X (kf := 1) (i := 1) rfl 1 rfl dX18_goes_29 ?_
  refine vv_if_lt (pc := 30) (tgt := 49) X dX18_goes_30 rfl ?_ ?_
  · exact vv_sub [] (by rfl) (B_X18_goes_49 X _)
  · refine vv_aload_n (pc := 33) X (kf := 0) (i := 0) rfl 0 rfl dX18_goes_33 ?_
    refine vv_getR (pc := 34) X (fun _ z => by rcases List.mem_cons.mp z with rfl | z; exact fl_X18_3_14; rcases List.mem_cons.mp z with rfl | z; exact fl_X18_3_15; rcases List.mem_cons.mp z with rfl | z; exact fl_X18_3_16; rcases List.mem_cons.mp z with rfl | z; exact fl_X18_3_17; rcases List.mem_cons.mp z with rfl | z; exact fl_X18_3_18; rcases List.mem_cons.mp z with rfl | z; exact fl_X18_3_19; cases List.mem_singleton.mp z; exact fl_X18_3_20) dX18_goes_34 (fun v10 => ?_)
    refine vv_getI (pc := 37) X (fun _ z => by cases List.mem_singleton.mp z; exact fl_X18_19_0) dX18_goes_37 (fun v11 => ?_)
    refine vv_bipush (pc := 40) X (by decide) dX18_goes_40 ?_
    refine vv_icmp_ge (pc := 42) (tgt := 49) X dX18_goes_42 rfl ?_ ?_
    · exact vv_sub [] (by rfl) (B_X18_goes_49 X _)
    · refine vv_iconst (pc := 45) X dX18_goes_45 ?_
      refine vv_goto (pc := 46) (tgt := 50) X dX18_goes_46 rfl ?_
      exact vv_sub [] (by rfl) (B_X18_goes_50 X _ _)
noncomputable def f_X18_goes (a0 : Nat) (h : HP) : Option ((Int) × HP) :=
  ((some a0)).bind fun b3 =>
  hb (dsp_Deed_does_14_15_16_17_18_19_20 b3 h) fun v1 h2 =>
  (rdR h2 (some a0) [14, 15, 16, 17, 18, 19, 20] 0).bind fun v5 =>
  (rdI h2 v5 [0] 7).bind fun v6 =>
  iLT v1 0
    (b_X18_goes_22 (some a0) v1 0 v6 v5 h2)
    (b_X18_goes_22 (some a0) v1 1 v6 v5 h2)
theorem A_X18_goes {M : hp_M} {G : va_G} {h0 : HP} (X : hp_X M G h0 "RenamedWords$Deed" "goes" cX18_goes 2 (some .boolean) [] 11 338) (a0 : Nat) (h : HP) : vv M G h0 2 (hp_End M G h0) jI h 0 [(0, LR (some a0))] [] (f_X18_goes a0 h) := by
  unfold f_X18_goes
  refine vv_aload_n (pc := 0) X (kf := 0) (i := 0) rfl 0 rfl dX18_goes_0 ?_
  refine vv_bnd (fun b3 e4 => ?_)
  refine vv_callI (pc := 1) (rest := []) (by rw [e4]; rfl) (fun r8 k8 e8 => Zdsp_Deed_does_14_15_16_17_18_19_20 X q2573 dX18_goes_1 (by decide) (by decide) (Nat.le_of_ble_eq_true rfl) e8) (fun v1 h2 => ?_)
  refine vv_istore_n (pc := 4) (lv' := [(1, LI v1), (0, LR (some a0))]) X (kf := 1) (i := 1) rfl (by decide) rfl dX18_goes_4 ?_
  refine vv_aload_n (pc := 5) X (kf := 0) (i := 0) rfl 1 rfl dX18_goes_5 ?_
  refine vv_getR (pc := 6) X (fun _ z => by rcases List.mem_cons.mp z with rfl | z; exact fl_X18_3_14; rcases List.mem_cons.mp z with rfl | z; exact fl_X18_3_15; rcases List.mem_cons.mp z with rfl | z; exact fl_X18_3_16; rcases List.mem_cons.mp z with rfl | z; exact fl_X18_3_17; rcases List.mem_cons.mp z with rfl | z; exact fl_X18_3_18; rcases List.mem_cons.mp z with rfl | z; exact fl_X18_3_19; cases List.mem_singleton.mp z; exact fl_X18_3_20) dX18_goes_6 (fun v5 => ?_)
  refine vv_dup (pc := 9) X rfl dX18_goes_9 ?_
  refine vv_getI (pc := 10) X (fun _ z => by cases List.mem_singleton.mp z; exact fl_X18_19_0) dX18_goes_10 (fun v6 => ?_)
  refine vv_iload_n (pc := 13) X (kf := 1) (i := 1) rfl 0 rfl dX18_goes_13 ?_
  refine vv_if_lt (pc := 14) (tgt := 21) X dX18_goes_14 rfl ?_ ?_
  · refine vv_iconst (pc := 21) X dX18_goes_21 ?_
    exact vv_sub [1, 0] (by rfl) (B_X18_goes_22 X _ _ _ _ _ _)
  · refine vv_iconst (pc := 17) X dX18_goes_17 ?_
    refine vv_goto (pc := 18) (tgt := 22) X dX18_goes_18 rfl ?_
    exact vv_sub [1, 0] (by rfl) (B_X18_goes_22 X _ _ _ _ _ _)
theorem m_X18_goes {l : Launch} (hl : l.stackTraces = false) {G : va_G} (a0 : Nat) (h : HP) : ∀ r hf, f_X18_goes a0 h = some (r, hf) → Ct l yX18_goes (ws_ yX18_goes cX18_goes 2 (some .boolean)) 11 338 G h [.ref a0] (jI r) hf :=
  zz_ofW hl (by decide +kernel) (lv := [(0, LR (some a0))]) (by simp [lv_args, lvL, lvV, zz_rfc, zz_rfs, zz_ci, zz_cr, zz_cj, zz_cf, zz_cd]) (by simp [lg_sl, zz_rfc, zz_ci, zz_cr, zz_cj, zz_cf, zz_cd]) (fun _ X => A_X18_goes X a0 h)
-- X17_goes_1 RenamedWords$Script.goes()Z
noncomputable def c_X17_goes_1_18 (r2 : Option Nat → Int → HP → Option ((Int) × HP)) (r18 : Option Nat → Int → Option Nat → HP → Option ((Int) × HP)) (x0 : Option Nat) (x1 : Int) (x2 : Option Nat) (h : HP) : Option ((Int) × HP) :=
  (rcv h x2 [32]).bind fun b9 =>
  hb (f_J36_hasNext b9 h) fun v7 h8 =>
  iEQ v7 0
    (r2 x0 (x1 + 1) h8)
    ((rcv h8 x2 [32]).bind fun b13 =>
    hb (f_J36_next b13 h8) fun v11 h12 =>
    (chk h12 v11 [13, 14, 15, 16, 17, 18, 19, 20]).bind fun _ =>
    (rcv h12 v11 [14, 15, 16, 17, 18, 19, 20]).bind fun b17 =>
    hb (f_X18_goes b17 h12) fun v15 h16 =>
    iEQ v15 0
      (some (0, h16))
      (r18 x0 x1 x2 h16))
noncomputable def b_X17_goes_1_18 (r2 : Option Nat → Int → HP → Option ((Int) × HP)) : Option Nat → Int → Option Nat → HP → Option ((Int) × HP) := fx (fun _ _ _ _ => none) (c_X17_goes_1_18 r2) FU
theorem C_X17_goes_1_18 {M : hp_M} {G : va_G} {h0 : HP} (X : hp_X M G h0 "RenamedWords$Script" "goes" cX17_goes 4 (some .boolean) [] 12 367) (r2 : Option Nat → Int → HP → Option ((Int) × HP)) (hr2 : ∀ (y0 : Option Nat) (y1 : Int) (h : HP), vv M G h0 4 (hp_End M G h0) jI h 2 [(0, LR y0), (1, LI y1)] [] (r2 y0 y1 h)) (r18 : Option Nat → Int → Option Nat → HP → Option ((Int) × HP)) (hr18 : ∀ (y0 : Option Nat) (y1 : Int) (y2 : Option Nat) (h : HP), vv M G h0 4 (hp_End M G h0) jI h 18 [(0, LR y0), (1, LI y1), (2, LR y2)] [] (r18 y0 y1 y2 h)) (x0 : Option Nat) (x1 : Int) (x2 : Option Nat) (h : HP) : vv M G h0 4 (hp_End M G h0) jI h 18 [(0, LR x0), (1, LI x1), (2, LR x2)] [] (c_X17_goes_1_18 r2 r18 x0 x1 x2 h) := by
  unfold c_X17_goes_1_18
  refine vv_aload_n (pc := 18) X (kf := 2) (i := 2) rfl 2 rfl dX17_goes_18 ?_
  refine vv_rcv (fun b9 t9 c9 fs9 e10 g9 k9 => ?_)
  cases List.mem_singleton.mp k9
  refine vv_callI (pc := 19) (rest := []) (by rw [e10]; rfl) (fun r8 k8 e8 => zz_callF X (m_J36_hasNext (hlM X) _ _ _ _ e8) g9 rfl q2562 (List.mem_of_getElem? (i := 8) rfl) q2200 q2198 q200 q2202 nh_xjava_util_Iterator rfl (by decide) (by decide) (Nat.le_of_ble_eq_true rfl) dX17_goes_19) (fun v7 h8 => ?_)
  refine vv_if_eq (pc := 24) (tgt := 49) X dX17_goes_24 rfl ?_ ?_
  · refine vv_iinc (pc := 49) (lv' := [(1, LI (x1 + 1)), (0, LR x0), (2, LR x2)]) X 1 rfl (by decide) rfl dX17_goes_49 ?_
    refine vv_goto (pc := 52) (tgt := 2) X dX17_goes_52 rfl ?_
    exact vv_sub [1, 0] (by rfl) (hr2 _ _ _)
  · refine vv_aload_n (pc := 27) X (kf := 2) (i := 2) rfl 2 rfl dX17_goes_27 ?_
    refine vv_rcv (fun b13 t9 c9 fs9 e14 g9 k9 => ?_)
    cases List.mem_singleton.mp k9
    refine vv_callR (pc := 28) (rest := []) (by rw [e14]; rfl) (fun r8 k8 e8 => zz_callF X (m_J36_next (hlM X) _ _ _ _ e8) g9 rfl q2564 (List.mem_of_getElem? (i := 9) rfl) q2368 q2366 q200 q2370 nh_xjava_util_Iterator rfl (by decide) (by decide) (Nat.le_of_ble_eq_true rfl) dX17_goes_28) (fun v11 h12 => ?_)
    refine vv_checkcast (pc := 33) X ⟨q2565, (fun _ z => by rcases List.mem_cons.mp z with rfl | z; exact ⟨_, rfl, Or.inr q4123⟩; rcases List.mem_cons.mp z with rfl | z; exact ⟨_, rfl, Or.inr q4124⟩; rcases List.mem_cons.mp z with rfl | z; exact ⟨_, rfl, Or.inr q4125⟩; rcases List.mem_cons.mp z with rfl | z; exact ⟨_, rfl, Or.inr q4126⟩; rcases List.mem_cons.mp z with rfl | z; exact ⟨_, rfl, Or.inr q4127⟩; rcases List.mem_cons.mp z with rfl | z; exact ⟨_, rfl, Or.inr q4128⟩; rcases List.mem_cons.mp z with rfl | z; exact ⟨_, rfl, Or.inr q4129⟩; cases List.mem_singleton.mp z; exact ⟨_, rfl, Or.inr q4130⟩)⟩ dX17_goes_33 ?_
    refine vv_astore_n (pc := 36) (lv' := [(3, LR v11), (0, LR x0), (1, LI x1), (2, LR x2)]) X (kf := 3) (i := 3) rfl (by decide) rfl dX17_goes_36 ?_
    refine vv_aload_n (pc := 37) X (kf := 3) (i := 3) rfl 0 rfl dX17_goes_37 ?_
    refine vv_rcv (fun b17 t9 c9 fs9 e18 g9 k9 => ?_)
    refine vv_callI (pc := 38) (stv := [].reverse ++ .ref b17 :: List.map lvV []) (rest := []) (by rw [e18]; rfl) (fun r8 k8 e8 => by
        rcases List.mem_cons.mp k9 with rfl | k9
        · exact zz_callU X (m_X18_goes (hlM X) _ _ _ _ e8) g9 rfl q2566 q2568 (va_Decl.abs (X.2.1.2.1 _ q2567 rfl)) (by decide) q2571 q2570 q183 q2572 rfl (by decide) (by decide) (Nat.le_of_ble_eq_true rfl) dX17_goes_38
        rcases List.mem_cons.mp k9 with rfl | k9
        · exact zz_callU X (m_X18_goes (hlM X) _ _ _ _ e8) g9 rfl q2566 q2568 (va_Decl.abs (X.2.1.2.1 _ q2567 rfl)) (by decide) q2571 q2821 q183 q2572 rfl (by decide) (by decide) (Nat.le_of_ble_eq_true rfl) dX17_goes_38
        rcases List.mem_cons.mp k9 with rfl | k9
        · exact zz_callU X (m_X18_goes (hlM X) _ _ _ _ e8) g9 rfl q2566 q2568 (va_Decl.abs (X.2.1.2.1 _ q2567 rfl)) (by decide) q2571 q2822 q183 q2572 rfl (by decide) (by decide) (Nat.le_of_ble_eq_true rfl) dX17_goes_38
        rcases List.mem_cons.mp k9 with rfl | k9
        · exact zz_callU X (m_X18_goes (hlM X) _ _ _ _ e8) g9 rfl q2566 q2568 (va_Decl.abs (X.2.1.2.1 _ q2567 rfl)) (by decide) q2571 q2823 q183 q2572 rfl (by decide) (by decide) (Nat.le_of_ble_eq_true rfl) dX17_goes_38
        rcases List.mem_cons.mp k9 with rfl | k9
        · exact zz_callU X (m_X18_goes (hlM X) _ _ _ _ e8) g9 rfl q2566 q2568 (va_Decl.abs (X.2.1.2.1 _ q2567 rfl)) (by decide) q2571 q2824 q183 q2572 rfl (by decide) (by decide) (Nat.le_of_ble_eq_true rfl) dX17_goes_38
        rcases List.mem_cons.mp k9 with rfl | k9
        · exact zz_callU X (m_X18_goes (hlM X) _ _ _ _ e8) g9 rfl q2566 q2568 (va_Decl.abs (X.2.1.2.1 _ q2567 rfl)) (by decide) q2571 q2825 q183 q2572 rfl (by decide) (by decide) (Nat.le_of_ble_eq_true rfl) dX17_goes_38
        cases List.mem_singleton.mp k9
        exact zz_callU X (m_X18_goes (hlM X) _ _ _ _ e8) g9 rfl q2566 q2568 (va_Decl.abs (X.2.1.2.1 _ q2567 rfl)) (by decide) q2571 q2826 q183 q2572 rfl (by decide) (by decide) (Nat.le_of_ble_eq_true rfl) dX17_goes_38) (fun v15 h16 => ?_)
    refine vv_if_ne (pc := 41) (tgt := 46) X dX17_goes_41 rfl ?_ ?_
    · refine vv_goto (pc := 46) (tgt := 18) X dX17_goes_46 rfl ?_
      exact vv_sub [1, 2, 3] (by rfl) (hr18 _ _ _ _)
    · refine vv_iconst (pc := 44) X dX17_goes_44 ?_
      exact vv_iret0 X rfl rfl dX17_goes_45
theorem B_X17_goes_1_18 {M : hp_M} {G : va_G} {h0 : HP} (X : hp_X M G h0 "RenamedWords$Script" "goes" cX17_goes 4 (some .boolean) [] 12 367) (r2 : Option Nat → Int → HP → Option ((Int) × HP)) (hr2 : ∀ (y0 : Option Nat) (y1 : Int) (h : HP), vv M G h0 4 (hp_End M G h0) jI h 2 [(0, LR y0), (1, LI y1)] [] (r2 y0 y1 h)) : ∀ (x0 : Option Nat) (x1 : Int) (x2 : Option Nat) (h : HP), vv M G h0 4 (hp_End M G h0) jI h 18 [(0, LR x0), (1, LI x1), (2, LR x2)] [] (b_X17_goes_1_18 r2 x0 x1 x2 h) := by
  unfold b_X17_goes_1_18
  generalize FU = n
  induction n with
  | zero => intro x0 x1 x2 h; exact vv_none
  | succ n ih => exact C_X17_goes_1_18 X r2 hr2 _ ih
noncomputable def c_X17_goes_1_2 (r2 : Option Nat → Int → HP → Option ((Int) × HP)) (x0 : Option Nat) (x1 : Int) (h : HP) : Option ((Int) × HP) :=
  (rdI h x0 [13] 1).bind fun v1 =>
  iLE v1 x1
    (some (1, h))
    ((rdR h x0 [13] 0).bind fun v2 =>
    (rcv h v2 [28]).bind fun b5 =>
    hb (f_J20_iterator b5 h) fun v3 h4 =>
    b_X17_goes_1_18 r2 x0 x1 v3 h4)
noncomputable def b_X17_goes_1_2 : Option Nat → Int → HP → Option ((Int) × HP) := fx (fun _ _ _ => none) (c_X17_goes_1_2) FU
theorem C_X17_goes_1_2 {M : hp_M} {G : va_G} {h0 : HP} (X : hp_X M G h0 "RenamedWords$Script" "goes" cX17_goes 4 (some .boolean) [] 12 367) (r2 : Option Nat → Int → HP → Option ((Int) × HP)) (hr2 : ∀ (y0 : Option Nat) (y1 : Int) (h : HP), vv M G h0 4 (hp_End M G h0) jI h 2 [(0, LR y0), (1, LI y1)] [] (r2 y0 y1 h)) (x0 : Option Nat) (x1 : Int) (h : HP) : vv M G h0 4 (hp_End M G h0) jI h 2 [(0, LR x0), (1, LI x1)] [] (c_X17_goes_1_2 r2 x0 x1 h) := by
  unfold c_X17_goes_1_2
  refine vv_iload_n (pc := 2) X (kf := 1) (i := 1) rfl 1 rfl dX17_goes_2 ?_
  refine vv_aload_n (pc := 3) X (kf := 0) (i := 0) rfl 0 rfl dX17_goes_3 ?_
  refine vv_getI (pc := 4) X (fun _ z => by cases List.mem_singleton.mp z; exact fl_X17_16_13) dX17_goes_4 (fun v1 => ?_)
  refine vv_icmp_ge (pc := 7) (tgt := 55) X dX17_goes_7 rfl ?_ ?_
  · refine vv_iconst (pc := 55) X dX17_goes_55 ?_
    exact vv_iret1 X rfl rfl dX17_goes_56
  · refine vv_aload_n (pc := 10) X (kf := 0) (i := 0) rfl 0 rfl dX17_goes_10 ?_
    refine vv_getR (pc := 11) X (fun _ z => by cases List.mem_singleton.mp z; exact fl_X17_10_13) dX17_goes_11 (fun v2 => ?_)
    refine vv_rcv (fun b5 t9 c9 fs9 e6 g9 k9 => ?_)
    cases List.mem_singleton.mp k9
    refine vv_callR (pc := 14) (rest := []) (by rw [e6]; rfl) (fun r8 k8 e8 => zz_callU X (m_J20_iterator (hlM X) _ _ _ _ e8) g9 rfl q2469 q2470 (va_Decl.of (X.1.2.2.2.2 _ q2473) (X.1.2.2.2.2 _ q2474)) (by decide) q2473 q2472 q161 q2474 rfl (by decide) (by decide) (Nat.le_of_ble_eq_true rfl) dX17_goes_14) (fun v3 h4 => ?_)
    refine vv_astore_n (pc := 17) (lv' := [(2, LR v3), (0, LR x0), (1, LI x1)]) X (kf := 2) (i := 2) rfl (by decide) rfl dX17_goes_17 ?_
    exact vv_sub [1, 2, 0] (by rfl) (B_X17_goes_1_18 X r2 hr2 _ _ _ _)
theorem B_X17_goes_1_2 {M : hp_M} {G : va_G} {h0 : HP} (X : hp_X M G h0 "RenamedWords$Script" "goes" cX17_goes 4 (some .boolean) [] 12 367) : ∀ (x0 : Option Nat) (x1 : Int) (h : HP), vv M G h0 4 (hp_End M G h0) jI h 2 [(0, LR x0), (1, LI x1)] [] (b_X17_goes_1_2 x0 x1 h) := by
  unfold b_X17_goes_1_2
  generalize FU = n
  induction n with
  | zero => intro x0 x1 h; exact vv_none
  | succ n ih => exact C_X17_goes_1_2 X _ ih
noncomputable def f_X17_goes_1 (a0 : Nat) (h : HP) : Option ((Int) × HP) :=
  b_X17_goes_1_2 (some a0) 0 h
theorem A_X17_goes_1 {M : hp_M} {G : va_G} {h0 : HP} (X : hp_X M G h0 "RenamedWords$Script" "goes" cX17_goes 4 (some .boolean) [] 12 367) (a0 : Nat) (h : HP) : vv M G h0 4 (hp_End M G h0) jI h 0 [(0, LR (some a0))] [] (f_X17_goes_1 a0 h) := by
  unfold f_X17_goes_1
  refine vv_iconst (pc := 0) X dX17_goes_0 ?_
  refine vv_istore_n (pc := 1) (lv' := [(1, LI 0), (0, LR (some a0))]) X (kf := 1) (i := 1) rfl (by decide) rfl dX17_goes_1 ?_
  exact vv_sub [1, 0] (by rfl) (B_X17_goes_1_2 X _ _ _)
theorem m_X17_goes_1 {l : Launch} (hl : l.stackTraces = false) {G : va_G} (a0 : Nat) (h : HP) : ∀ r hf, f_X17_goes_1 a0 h = some (r, hf) → Ct l yX17_goes (ws_ yX17_goes cX17_goes 4 (some .boolean)) 12 367 G h [.ref a0] (jI r) hf :=
  zz_ofW hl (by decide +kernel) (lv := [(0, LR (some a0))]) (by simp [lv_args, lvL, lvV, zz_rfc, zz_rfs, zz_ci, zz_cr, zz_cj, zz_cf, zz_cd]) (by simp [lg_sl, zz_rfc, zz_ci, zz_cr, zz_cj, zz_cf, zz_cd]) (fun _ X => A_X17_goes_1 X a0 h)
-- X17_goes_2 RenamedWords$Script.goes()Z
noncomputable def dsp_Order_goes_13x1_14_15_16_17_18_19_20 (b : Nat)  (h : HP) : Option ((Int) × HP) := (clsOf h b).bind fun c => if c = 13 then f_X17_goes_1 b  h else if c = 14 then f_X18_goes b  h else if c = 15 then f_X18_goes b  h else if c = 16 then f_X18_goes b  h else if c = 17 then f_X18_goes b  h else if c = 18 then f_X18_goes b  h else if c = 19 then f_X18_goes b  h else if c = 20 then f_X18_goes b  h else none
theorem Zdsp_Order_goes_13x1_14_15_16_17_18_19_20 {M : hp_M} {G : va_G} {h0 h : HP} {own nm : String} {cc : ByteArray} {nL F L : Nat} {ret : Option FieldType} {tb : List ExceptionTableEntry} (X : hp_X M G h0 own nm cc nL ret tb F L) {b ix pc : Nat}  {rest : List Value} (q1 : Cond.methodLink own ix (⟨"RenamedWords$Order", "goes", "()Z"⟩ : MethodName) ∈ lw_all) (d : decode cc pc = .ok (.invokevirtual ix, 3)) (hF : 13 ≤ F) (hL : 398 ≤ L) (hr : rest.length ≤ 8) {r8 : Int} {k8 : HP} (e : dsp_Order_goes_13x1_14_15_16_17_18_19_20 b  h = some (r8, k8)) : zz_run M G h0 nL h pc (pc + 3) ([].reverse ++ .ref b :: rest) rest (jI r8) k8 := by
  unfold dsp_Order_goes_13x1_14_15_16_17_18_19_20 at e
  obtain ⟨c, hc, e⟩ := Option.bind_eq_some_iff.mp e
  obtain ⟨t9, fs9, g9⟩ := clsOf_some hc
  by_cases z0 : c = 13
  · subst z0
    have e8 : f_X17_goes_1 b  h = some (r8, k8) := by simpa using e
    exact zz_callU X (m_X17_goes_1 (hlM X) _ _ _ _ e8) g9 rfl q1 q2568 (va_Decl.abs (X.2.1.2.1 _ q2567 rfl)) (by decide) q2466 q2569 q182 q2468 rfl (by omega) (by omega) hr d
  by_cases z1 : c = 14
  · subst z1
    have e8 : f_X18_goes b  h = some (r8, k8) := by simpa using e
    exact zz_callU X (m_X18_goes (hlM X) _ _ _ _ e8) g9 rfl q1 q2568 (va_Decl.abs (X.2.1.2.1 _ q2567 rfl)) (by decide) q2571 q2570 q183 q2572 rfl (by omega) (by omega) hr d
  by_cases z2 : c = 15
  · subst z2
    have e8 : f_X18_goes b  h = some (r8, k8) := by simpa using e
    exact zz_callU X (m_X18_goes (hlM X) _ _ _ _ e8) g9 rfl q1 q2568 (va_Decl.abs (X.2.1.2.1 _ q2567 rfl)) (by decide) q2571 q2821 q183 q2572 rfl (by omega) (by omega) hr d
  by_cases z3 : c = 16
  · subst z3
    have e8 : f_X18_goes b  h = some (r8, k8) := by simpa using e
    exact zz_callU X (m_X18_goes (hlM X) _ _ _ _ e8) g9 rfl q1 q2568 (va_Decl.abs (X.2.1.2.1 _ q2567 rfl)) (by decide) q2571 q2822 q183 q2572 rfl (by omega) (by omega) hr d
  by_cases z4 : c = 17
  · subst z4
    have e8 : f_X18_goes b  h = some (r8, k8) := by simpa using e
    exact zz_callU X (m_X18_goes (hlM X) _ _ _ _ e8) g9 rfl q1 q2568 (va_Decl.abs (X.2.1.2.1 _ q2567 rfl)) (by decide) q2571 q2823 q183 q2572 rfl (by omega) (by omega) hr d
  by_cases z5 : c = 18
  · subst z5
    have e8 : f_X18_goes b  h = some (r8, k8) := by simpa using e
    exact zz_callU X (m_X18_goes (hlM X) _ _ _ _ e8) g9 rfl q1 q2568 (va_Decl.abs (X.2.1.2.1 _ q2567 rfl)) (by decide) q2571 q2824 q183 q2572 rfl (by omega) (by omega) hr d
  by_cases z6 : c = 19
  · subst z6
    have e8 : f_X18_goes b  h = some (r8, k8) := by simpa using e
    exact zz_callU X (m_X18_goes (hlM X) _ _ _ _ e8) g9 rfl q1 q2568 (va_Decl.abs (X.2.1.2.1 _ q2567 rfl)) (by decide) q2571 q2825 q183 q2572 rfl (by omega) (by omega) hr d
  by_cases z7 : c = 20
  · subst z7
    have e8 : f_X18_goes b  h = some (r8, k8) := by simpa using e
    exact zz_callU X (m_X18_goes (hlM X) _ _ _ _ e8) g9 rfl q1 q2568 (va_Decl.abs (X.2.1.2.1 _ q2567 rfl)) (by decide) q2571 q2826 q183 q2572 rfl (by omega) (by omega) hr d
  simp [z0, z1, z2, z3, z4, z5, z6, z7] at e

noncomputable def c_X17_goes_2_18 (r2 : Option Nat → Int → HP → Option ((Int) × HP)) (r18 : Option Nat → Int → Option Nat → HP → Option ((Int) × HP)) (x0 : Option Nat) (x1 : Int) (x2 : Option Nat) (h : HP) : Option ((Int) × HP) :=
  (rcv h x2 [32]).bind fun b9 =>
  hb (f_J36_hasNext b9 h) fun v7 h8 =>
  iEQ v7 0
    (r2 x0 (x1 + 1) h8)
    ((rcv h8 x2 [32]).bind fun b13 =>
    hb (f_J36_next b13 h8) fun v11 h12 =>
    (chk h12 v11 [13, 14, 15, 16, 17, 18, 19, 20]).bind fun _ =>
    (v11).bind fun b17 =>
    hb (dsp_Order_goes_13x1_14_15_16_17_18_19_20 b17 h12) fun v15 h16 =>
    iEQ v15 0
      (some (0, h16))
      (r18 x0 x1 x2 h16))
noncomputable def b_X17_goes_2_18 (r2 : Option Nat → Int → HP → Option ((Int) × HP)) : Option Nat → Int → Option Nat → HP → Option ((Int) × HP) := fx (fun _ _ _ _ => none) (c_X17_goes_2_18 r2) FU
theorem C_X17_goes_2_18 {M : hp_M} {G : va_G} {h0 : HP} (X : hp_X M G h0 "RenamedWords$Script" "goes" cX17_goes 4 (some .boolean) [] 13 398) (r2 : Option Nat → Int → HP → Option ((Int) × HP)) (hr2 : ∀ (y0 : Option Nat) (y1 : Int) (h : HP), vv M G h0 4 (hp_End M G h0) jI h 2 [(0, LR y0), (1, LI y1)] [] (r2 y0 y1 h)) (r18 : Option Nat → Int → Option Nat → HP → Option ((Int) × HP)) (hr18 : ∀ (y0 : Option Nat) (y1 : Int) (y2 : Option Nat) (h : HP), vv M G h0 4 (hp_End M G h0) jI h 18 [(0, LR y0), (1, LI y1), (2, LR y2)] [] (r18 y0 y1 y2 h)) (x0 : Option Nat) (x1 : Int) (x2 : Option Nat) (h : HP) : vv M G h0 4 (hp_End M G h0) jI h 18 [(0, LR x0), (1, LI x1), (2, LR x2)] [] (c_X17_goes_2_18 r2 r18 x0 x1 x2 h) := by
  unfold c_X17_goes_2_18
  refine vv_aload_n (pc := 18) X (kf := 2) (i := 2) rfl 2 rfl dX17_goes_18 ?_
  refine vv_rcv (fun b9 t9 c9 fs9 e10 g9 k9 => ?_)
  cases List.mem_singleton.mp k9
  refine vv_callI (pc := 19) (rest := []) (by rw [e10]; rfl) (fun r8 k8 e8 => zz_callF X (m_J36_hasNext (hlM X) _ _ _ _ e8) g9 rfl q2562 (List.mem_of_getElem? (i := 8) rfl) q2200 q2198 q200 q2202 nh_xjava_util_Iterator rfl (by decide) (by decide) (Nat.le_of_ble_eq_true rfl) dX17_goes_19) (fun v7 h8 => ?_)
  refine vv_if_eq (pc := 24) (tgt := 49) X dX17_goes_24 rfl ?_ ?_
  · refine vv_iinc (pc := 49) (lv' := [(1, LI (x1 + 1)), (0, LR x0), (2, LR x2)]) X 1 rfl (by decide) rfl dX17_goes_49 ?_
    refine vv_goto (pc := 52) (tgt := 2) X dX17_goes_52 rfl ?_
    exact vv_sub [1, 0] (by rfl) (hr2 _ _ _)
  · refine vv_aload_n (pc := 27) X (kf := 2) (i := 2) rfl 2 rfl dX17_goes_27 ?_
    refine vv_rcv (fun b13 t9 c9 fs9 e14 g9 k9 => ?_)
    cases List.mem_singleton.mp k9
    refine vv_callR (pc := 28) (rest := []) (by rw [e14]; rfl) (fun r8 k8 e8 => zz_callF X (m_J36_next (hlM X) _ _ _ _ e8) g9 rfl q2564 (List.mem_of_getElem? (i := 9) rfl) q2368 q2366 q200 q2370 nh_xjava_util_Iterator rfl (by decide) (by decide) (Nat.le_of_ble_eq_true rfl) dX17_goes_28) (fun v11 h12 => ?_)
    refine vv_checkcast (pc := 33) X ⟨q2565, (fun _ z => by rcases List.mem_cons.mp z with rfl | z; exact ⟨_, rfl, Or.inr q4123⟩; rcases List.mem_cons.mp z with rfl | z; exact ⟨_, rfl, Or.inr q4124⟩; rcases List.mem_cons.mp z with rfl | z; exact ⟨_, rfl, Or.inr q4125⟩; rcases List.mem_cons.mp z with rfl | z; exact ⟨_, rfl, Or.inr q4126⟩; rcases List.mem_cons.mp z with rfl | z; exact ⟨_, rfl, Or.inr q4127⟩; rcases List.mem_cons.mp z with rfl | z; exact ⟨_, rfl, Or.inr q4128⟩; rcases List.mem_cons.mp z with rfl | z; exact ⟨_, rfl, Or.inr q4129⟩; cases List.mem_singleton.mp z; exact ⟨_, rfl, Or.inr q4130⟩)⟩ dX17_goes_33 ?_
    refine vv_astore_n (pc := 36) (lv' := [(3, LR v11), (0, LR x0), (1, LI x1), (2, LR x2)]) X (kf := 3) (i := 3) rfl (by decide) rfl dX17_goes_36 ?_
    refine vv_aload_n (pc := 37) X (kf := 3) (i := 3) rfl 0 rfl dX17_goes_37 ?_
    refine vv_bnd (fun b17 e18 => ?_)
    refine vv_callI (pc := 38) (rest := []) (by rw [e18]; rfl) (fun r8 k8 e8 => Zdsp_Order_goes_13x1_14_15_16_17_18_19_20 X q2566 dX17_goes_38 (by decide) (by decide) (Nat.le_of_ble_eq_true rfl) e8) (fun v15 h16 => ?_)
    refine vv_if_ne (pc := 41) (tgt := 46) X dX17_goes_41 rfl ?_ ?_
    · refine vv_goto (pc := 46) (tgt := 18) X dX17_goes_46 rfl ?_
      exact vv_sub [1, 2, 3] (by rfl) (hr18 _ _ _ _)
    · refine vv_iconst (pc := 44) X dX17_goes_44 ?_
      exact vv_iret0 X rfl rfl dX17_goes_45
theorem B_X17_goes_2_18 {M : hp_M} {G : va_G} {h0 : HP} (X : hp_X M G h0 "RenamedWords$Script" "goes" cX17_goes 4 (some .boolean) [] 13 398) (r2 : Option Nat → Int → HP → Option ((Int) × HP)) (hr2 : ∀ (y0 : Option Nat) (y1 : Int) (h : HP), vv M G h0 4 (hp_End M G h0) jI h 2 [(0, LR y0), (1, LI y1)] [] (r2 y0 y1 h)) : ∀ (x0 : Option Nat) (x1 : Int) (x2 : Option Nat) (h : HP), vv M G h0 4 (hp_End M G h0) jI h 18 [(0, LR x0), (1, LI x1), (2, LR x2)] [] (b_X17_goes_2_18 r2 x0 x1 x2 h) := by
  unfold b_X17_goes_2_18
  generalize FU = n
  induction n with
  | zero => intro x0 x1 x2 h; exact vv_none
  | succ n ih => exact C_X17_goes_2_18 X r2 hr2 _ ih
noncomputable def c_X17_goes_2_2 (r2 : Option Nat → Int → HP → Option ((Int) × HP)) (x0 : Option Nat) (x1 : Int) (h : HP) : Option ((Int) × HP) :=
  (rdI h x0 [13] 1).bind fun v1 =>
  iLE v1 x1
    (some (1, h))
    ((rdR h x0 [13] 0).bind fun v2 =>
    (rcv h v2 [28]).bind fun b5 =>
    hb (f_J20_iterator b5 h) fun v3 h4 =>
    b_X17_goes_2_18 r2 x0 x1 v3 h4)
noncomputable def b_X17_goes_2_2 : Option Nat → Int → HP → Option ((Int) × HP) := fx (fun _ _ _ => none) (c_X17_goes_2_2) FU
theorem C_X17_goes_2_2 {M : hp_M} {G : va_G} {h0 : HP} (X : hp_X M G h0 "RenamedWords$Script" "goes" cX17_goes 4 (some .boolean) [] 13 398) (r2 : Option Nat → Int → HP → Option ((Int) × HP)) (hr2 : ∀ (y0 : Option Nat) (y1 : Int) (h : HP), vv M G h0 4 (hp_End M G h0) jI h 2 [(0, LR y0), (1, LI y1)] [] (r2 y0 y1 h)) (x0 : Option Nat) (x1 : Int) (h : HP) : vv M G h0 4 (hp_End M G h0) jI h 2 [(0, LR x0), (1, LI x1)] [] (c_X17_goes_2_2 r2 x0 x1 h) := by
  unfold c_X17_goes_2_2
  refine vv_iload_n (pc := 2) X (kf := 1) (i := 1) rfl 1 rfl dX17_goes_2 ?_
  refine vv_aload_n (pc := 3) X (kf := 0) (i := 0) rfl 0 rfl dX17_goes_3 ?_
  refine vv_getI (pc := 4) X (fun _ z => by cases List.mem_singleton.mp z; exact fl_X17_16_13) dX17_goes_4 (fun v1 => ?_)
  refine vv_icmp_ge (pc := 7) (tgt := 55) X dX17_goes_7 rfl ?_ ?_
  · refine vv_iconst (pc := 55) X dX17_goes_55 ?_
    exact vv_iret1 X rfl rfl dX17_goes_56
  · refine vv_aload_n (pc := 10) X (kf := 0) (i := 0) rfl 0 rfl dX17_goes_10 ?_
    refine vv_getR (pc := 11) X (fun _ z => by cases List.mem_singleton.mp z; exact fl_X17_10_13) dX17_goes_11 (fun v2 => ?_)
    refine vv_rcv (fun b5 t9 c9 fs9 e6 g9 k9 => ?_)
    cases List.mem_singleton.mp k9
    refine vv_callR (pc := 14) (rest := []) (by rw [e6]; rfl) (fun r8 k8 e8 => zz_callU X (m_J20_iterator (hlM X) _ _ _ _ e8) g9 rfl q2469 q2470 (va_Decl.of (X.1.2.2.2.2 _ q2473) (X.1.2.2.2.2 _ q2474)) (by decide) q2473 q2472 q161 q2474 rfl (by decide) (by decide) (Nat.le_of_ble_eq_true rfl) dX17_goes_14) (fun v3 h4 => ?_)
    refine vv_astore_n (pc := 17) (lv' := [(2, LR v3), (0, LR x0), (1, LI x1)]) X (kf := 2) (i := 2) rfl (by decide) rfl dX17_goes_17 ?_
    exact vv_sub [1, 2, 0] (by rfl) (B_X17_goes_2_18 X r2 hr2 _ _ _ _)
theorem B_X17_goes_2_2 {M : hp_M} {G : va_G} {h0 : HP} (X : hp_X M G h0 "RenamedWords$Script" "goes" cX17_goes 4 (some .boolean) [] 13 398) : ∀ (x0 : Option Nat) (x1 : Int) (h : HP), vv M G h0 4 (hp_End M G h0) jI h 2 [(0, LR x0), (1, LI x1)] [] (b_X17_goes_2_2 x0 x1 h) := by
  unfold b_X17_goes_2_2
  generalize FU = n
  induction n with
  | zero => intro x0 x1 h; exact vv_none
  | succ n ih => exact C_X17_goes_2_2 X _ ih
noncomputable def f_X17_goes_2 (a0 : Nat) (h : HP) : Option ((Int) × HP) :=
  b_X17_goes_2_2 (some a0) 0 h
theorem A_X17_goes_2 {M : hp_M} {G : va_G} {h0 : HP} (X : hp_X M G h0 "RenamedWords$Script" "goes" cX17_goes 4 (some .boolean) [] 13 398) (a0 : Nat) (h : HP) : vv M G h0 4 (hp_End M G h0) jI h 0 [(0, LR (some a0))] [] (f_X17_goes_2 a0 h) := by
  unfold f_X17_goes_2
  refine vv_iconst (pc := 0) X dX17_goes_0 ?_
  refine vv_istore_n (pc := 1) (lv' := [(1, LI 0), (0, LR (some a0))]) X (kf := 1) (i := 1) rfl (by decide) rfl dX17_goes_1 ?_
  exact vv_sub [1, 0] (by rfl) (B_X17_goes_2_2 X _ _ _)
theorem m_X17_goes_2 {l : Launch} (hl : l.stackTraces = false) {G : va_G} (a0 : Nat) (h : HP) : ∀ r hf, f_X17_goes_2 a0 h = some (r, hf) → Ct l yX17_goes (ws_ yX17_goes cX17_goes 4 (some .boolean)) 13 398 G h [.ref a0] (jI r) hf :=
  zz_ofW hl (by decide +kernel) (lv := [(0, LR (some a0))]) (by simp [lv_args, lvL, lvV, zz_rfc, zz_rfs, zz_ci, zz_cr, zz_cj, zz_cf, zz_cd]) (by simp [lg_sl, zz_rfc, zz_ci, zz_cr, zz_cj, zz_cf, zz_cd]) (fun _ X => A_X17_goes_2 X a0 h)
-- X17_goes_3 RenamedWords$Script.goes()Z
noncomputable def dsp_Order_goes_13x2_14_15_16_17_18_19_20 (b : Nat)  (h : HP) : Option ((Int) × HP) := (clsOf h b).bind fun c => if c = 13 then f_X17_goes_2 b  h else if c = 14 then f_X18_goes b  h else if c = 15 then f_X18_goes b  h else if c = 16 then f_X18_goes b  h else if c = 17 then f_X18_goes b  h else if c = 18 then f_X18_goes b  h else if c = 19 then f_X18_goes b  h else if c = 20 then f_X18_goes b  h else none
theorem Zdsp_Order_goes_13x2_14_15_16_17_18_19_20 {M : hp_M} {G : va_G} {h0 h : HP} {own nm : String} {cc : ByteArray} {nL F L : Nat} {ret : Option FieldType} {tb : List ExceptionTableEntry} (X : hp_X M G h0 own nm cc nL ret tb F L) {b ix pc : Nat}  {rest : List Value} (q1 : Cond.methodLink own ix (⟨"RenamedWords$Order", "goes", "()Z"⟩ : MethodName) ∈ lw_all) (d : decode cc pc = .ok (.invokevirtual ix, 3)) (hF : 14 ≤ F) (hL : 429 ≤ L) (hr : rest.length ≤ 8) {r8 : Int} {k8 : HP} (e : dsp_Order_goes_13x2_14_15_16_17_18_19_20 b  h = some (r8, k8)) : zz_run M G h0 nL h pc (pc + 3) ([].reverse ++ .ref b :: rest) rest (jI r8) k8 := by
  unfold dsp_Order_goes_13x2_14_15_16_17_18_19_20 at e
  obtain ⟨c, hc, e⟩ := Option.bind_eq_some_iff.mp e
  obtain ⟨t9, fs9, g9⟩ := clsOf_some hc
  by_cases z0 : c = 13
  · subst z0
    have e8 : f_X17_goes_2 b  h = some (r8, k8) := by simpa using e
    exact zz_callU X (m_X17_goes_2 (hlM X) _ _ _ _ e8) g9 rfl q1 q2568 (va_Decl.abs (X.2.1.2.1 _ q2567 rfl)) (by decide) q2466 q2569 q182 q2468 rfl (by omega) (by omega) hr d
  by_cases z1 : c = 14
  · subst z1
    have e8 : f_X18_goes b  h = some (r8, k8) := by simpa using e
    exact zz_callU X (m_X18_goes (hlM X) _ _ _ _ e8) g9 rfl q1 q2568 (va_Decl.abs (X.2.1.2.1 _ q2567 rfl)) (by decide) q2571 q2570 q183 q2572 rfl (by omega) (by omega) hr d
  by_cases z2 : c = 15
  · subst z2
    have e8 : f_X18_goes b  h = some (r8, k8) := by simpa using e
    exact zz_callU X (m_X18_goes (hlM X) _ _ _ _ e8) g9 rfl q1 q2568 (va_Decl.abs (X.2.1.2.1 _ q2567 rfl)) (by decide) q2571 q2821 q183 q2572 rfl (by omega) (by omega) hr d
  by_cases z3 : c = 16
  · subst z3
    have e8 : f_X18_goes b  h = some (r8, k8) := by simpa using e
    exact zz_callU X (m_X18_goes (hlM X) _ _ _ _ e8) g9 rfl q1 q2568 (va_Decl.abs (X.2.1.2.1 _ q2567 rfl)) (by decide) q2571 q2822 q183 q2572 rfl (by omega) (by omega) hr d
  by_cases z4 : c = 17
  · subst z4
    have e8 : f_X18_goes b  h = some (r8, k8) := by simpa using e
    exact zz_callU X (m_X18_goes (hlM X) _ _ _ _ e8) g9 rfl q1 q2568 (va_Decl.abs (X.2.1.2.1 _ q2567 rfl)) (by decide) q2571 q2823 q183 q2572 rfl (by omega) (by omega) hr d
  by_cases z5 : c = 18
  · subst z5
    have e8 : f_X18_goes b  h = some (r8, k8) := by simpa using e
    exact zz_callU X (m_X18_goes (hlM X) _ _ _ _ e8) g9 rfl q1 q2568 (va_Decl.abs (X.2.1.2.1 _ q2567 rfl)) (by decide) q2571 q2824 q183 q2572 rfl (by omega) (by omega) hr d
  by_cases z6 : c = 19
  · subst z6
    have e8 : f_X18_goes b  h = some (r8, k8) := by simpa using e
    exact zz_callU X (m_X18_goes (hlM X) _ _ _ _ e8) g9 rfl q1 q2568 (va_Decl.abs (X.2.1.2.1 _ q2567 rfl)) (by decide) q2571 q2825 q183 q2572 rfl (by omega) (by omega) hr d
  by_cases z7 : c = 20
  · subst z7
    have e8 : f_X18_goes b  h = some (r8, k8) := by simpa using e
    exact zz_callU X (m_X18_goes (hlM X) _ _ _ _ e8) g9 rfl q1 q2568 (va_Decl.abs (X.2.1.2.1 _ q2567 rfl)) (by decide) q2571 q2826 q183 q2572 rfl (by omega) (by omega) hr d
  simp [z0, z1, z2, z3, z4, z5, z6, z7] at e

noncomputable def c_X17_goes_3_18 (r2 : Option Nat → Int → HP → Option ((Int) × HP)) (r18 : Option Nat → Int → Option Nat → HP → Option ((Int) × HP)) (x0 : Option Nat) (x1 : Int) (x2 : Option Nat) (h : HP) : Option ((Int) × HP) :=
  (rcv h x2 [32]).bind fun b9 =>
  hb (f_J36_hasNext b9 h) fun v7 h8 =>
  iEQ v7 0
    (r2 x0 (x1 + 1) h8)
    ((rcv h8 x2 [32]).bind fun b13 =>
    hb (f_J36_next b13 h8) fun v11 h12 =>
    (chk h12 v11 [13, 14, 15, 16, 17, 18, 19, 20]).bind fun _ =>
    (v11).bind fun b17 =>
    hb (dsp_Order_goes_13x2_14_15_16_17_18_19_20 b17 h12) fun v15 h16 =>
    iEQ v15 0
      (some (0, h16))
      (r18 x0 x1 x2 h16))
noncomputable def b_X17_goes_3_18 (r2 : Option Nat → Int → HP → Option ((Int) × HP)) : Option Nat → Int → Option Nat → HP → Option ((Int) × HP) := fx (fun _ _ _ _ => none) (c_X17_goes_3_18 r2) FU
theorem C_X17_goes_3_18 {M : hp_M} {G : va_G} {h0 : HP} (X : hp_X M G h0 "RenamedWords$Script" "goes" cX17_goes 4 (some .boolean) [] 14 429) (r2 : Option Nat → Int → HP → Option ((Int) × HP)) (hr2 : ∀ (y0 : Option Nat) (y1 : Int) (h : HP), vv M G h0 4 (hp_End M G h0) jI h 2 [(0, LR y0), (1, LI y1)] [] (r2 y0 y1 h)) (r18 : Option Nat → Int → Option Nat → HP → Option ((Int) × HP)) (hr18 : ∀ (y0 : Option Nat) (y1 : Int) (y2 : Option Nat) (h : HP), vv M G h0 4 (hp_End M G h0) jI h 18 [(0, LR y0), (1, LI y1), (2, LR y2)] [] (r18 y0 y1 y2 h)) (x0 : Option Nat) (x1 : Int) (x2 : Option Nat) (h : HP) : vv M G h0 4 (hp_End M G h0) jI h 18 [(0, LR x0), (1, LI x1), (2, LR x2)] [] (c_X17_goes_3_18 r2 r18 x0 x1 x2 h) := by
  unfold c_X17_goes_3_18
  refine vv_aload_n (pc := 18) X (kf := 2) (i := 2) rfl 2 rfl dX17_goes_18 ?_
  refine vv_rcv (fun b9 t9 c9 fs9 e10 g9 k9 => ?_)
  cases List.mem_singleton.mp k9
  refine vv_callI (pc := 19) (rest := []) (by rw [e10]; rfl) (fun r8 k8 e8 => zz_callF X (m_J36_hasNext (hlM X) _ _ _ _ e8) g9 rfl q2562 (List.mem_of_getElem? (i := 8) rfl) q2200 q2198 q200 q2202 nh_xjava_util_Iterator rfl (by decide) (by decide) (Nat.le_of_ble_eq_true rfl) dX17_goes_19) (fun v7 h8 => ?_)
  refine vv_if_eq (pc := 24) (tgt := 49) X dX17_goes_24 rfl ?_ ?_
  · refine vv_iinc (pc := 49) (lv' := [(1, LI (x1 + 1)), (0, LR x0), (2, LR x2)]) X 1 rfl (by decide) rfl dX17_goes_49 ?_
    refine vv_goto (pc := 52) (tgt := 2) X dX17_goes_52 rfl ?_
    exact vv_sub [1, 0] (by rfl) (hr2 _ _ _)
  · refine vv_aload_n (pc := 27) X (kf := 2) (i := 2) rfl 2 rfl dX17_goes_27 ?_
    refine vv_rcv (fun b13 t9 c9 fs9 e14 g9 k9 => ?_)
    cases List.mem_singleton.mp k9
    refine vv_callR (pc := 28) (rest := []) (by rw [e14]; rfl) (fun r8 k8 e8 => zz_callF X (m_J36_next (hlM X) _ _ _ _ e8) g9 rfl q2564 (List.mem_of_getElem? (i := 9) rfl) q2368 q2366 q200 q2370 nh_xjava_util_Iterator rfl (by decide) (by decide) (Nat.le_of_ble_eq_true rfl) dX17_goes_28) (fun v11 h12 => ?_)
    refine vv_checkcast (pc := 33) X ⟨q2565, (fun _ z => by rcases List.mem_cons.mp z with rfl | z; exact ⟨_, rfl, Or.inr q4123⟩; rcases List.mem_cons.mp z with rfl | z; exact ⟨_, rfl, Or.inr q4124⟩; rcases List.mem_cons.mp z with rfl | z; exact ⟨_, rfl, Or.inr q4125⟩; rcases List.mem_cons.mp z with rfl | z; exact ⟨_, rfl, Or.inr q4126⟩; rcases List.mem_cons.mp z with rfl | z; exact ⟨_, rfl, Or.inr q4127⟩; rcases List.mem_cons.mp z with rfl | z; exact ⟨_, rfl, Or.inr q4128⟩; rcases List.mem_cons.mp z with rfl | z; exact ⟨_, rfl, Or.inr q4129⟩; cases List.mem_singleton.mp z; exact ⟨_, rfl, Or.inr q4130⟩)⟩ dX17_goes_33 ?_
    refine vv_astore_n (pc := 36) (lv' := [(3, LR v11), (0, LR x0), (1, LI x1), (2, LR x2)]) X (kf := 3) (i := 3) rfl (by decide) rfl dX17_goes_36 ?_
    refine vv_aload_n (pc := 37) X (kf := 3) (i := 3) rfl 0 rfl dX17_goes_37 ?_
    refine vv_bnd (fun b17 e18 => ?_)
    refine vv_callI (pc := 38) (rest := []) (by rw [e18]; rfl) (fun r8 k8 e8 => Zdsp_Order_goes_13x2_14_15_16_17_18_19_20 X q2566 dX17_goes_38 (by decide) (by decide) (Nat.le_of_ble_eq_true rfl) e8) (fun v15 h16 => ?_)
    refine vv_if_ne (pc := 41) (tgt := 46) X dX17_goes_41 rfl ?_ ?_
    · refine vv_goto (pc := 46) (tgt := 18) X dX17_goes_46 rfl ?_
      exact vv_sub [1, 2, 3] (by rfl) (hr18 _ _ _ _)
    · refine vv_iconst (pc := 44) X dX17_goes_44 ?_
      exact vv_iret0 X rfl rfl dX17_goes_45
theorem B_X17_goes_3_18 {M : hp_M} {G : va_G} {h0 : HP} (X : hp_X M G h0 "RenamedWords$Script" "goes" cX17_goes 4 (some .boolean) [] 14 429) (r2 : Option Nat → Int → HP → Option ((Int) × HP)) (hr2 : ∀ (y0 : Option Nat) (y1 : Int) (h : HP), vv M G h0 4 (hp_End M G h0) jI h 2 [(0, LR y0), (1, LI y1)] [] (r2 y0 y1 h)) : ∀ (x0 : Option Nat) (x1 : Int) (x2 : Option Nat) (h : HP), vv M G h0 4 (hp_End M G h0) jI h 18 [(0, LR x0), (1, LI x1), (2, LR x2)] [] (b_X17_goes_3_18 r2 x0 x1 x2 h) := by
  unfold b_X17_goes_3_18
  generalize FU = n
  induction n with
  | zero => intro x0 x1 x2 h; exact vv_none
  | succ n ih => exact C_X17_goes_3_18 X r2 hr2 _ ih
noncomputable def c_X17_goes_3_2 (r2 : Option Nat → Int → HP → Option ((Int) × HP)) (x0 : Option Nat) (x1 : Int) (h : HP) : Option ((Int) × HP) :=
  (rdI h x0 [13] 1).bind fun v1 =>
  iLE v1 x1
    (some (1, h))
    ((rdR h x0 [13] 0).bind fun v2 =>
    (rcv h v2 [28]).bind fun b5 =>
    hb (f_J20_iterator b5 h) fun v3 h4 =>
    b_X17_goes_3_18 r2 x0 x1 v3 h4)
noncomputable def b_X17_goes_3_2 : Option Nat → Int → HP → Option ((Int) × HP) := fx (fun _ _ _ => none) (c_X17_goes_3_2) FU
theorem C_X17_goes_3_2 {M : hp_M} {G : va_G} {h0 : HP} (X : hp_X M G h0 "RenamedWords$Script" "goes" cX17_goes 4 (some .boolean) [] 14 429) (r2 : Option Nat → Int → HP → Option ((Int) × HP)) (hr2 : ∀ (y0 : Option Nat) (y1 : Int) (h : HP), vv M G h0 4 (hp_End M G h0) jI h 2 [(0, LR y0), (1, LI y1)] [] (r2 y0 y1 h)) (x0 : Option Nat) (x1 : Int) (h : HP) : vv M G h0 4 (hp_End M G h0) jI h 2 [(0, LR x0), (1, LI x1)] [] (c_X17_goes_3_2 r2 x0 x1 h) := by
  unfold c_X17_goes_3_2
  refine vv_iload_n (pc := 2) X (kf := 1) (i := 1) rfl 1 rfl dX17_goes_2 ?_
  refine vv_aload_n (pc := 3) X (kf := 0) (i := 0) rfl 0 rfl dX17_goes_3 ?_
  refine vv_getI (pc := 4) X (fun _ z => by cases List.mem_singleton.mp z; exact fl_X17_16_13) dX17_goes_4 (fun v1 => ?_)
  refine vv_icmp_ge (pc := 7) (tgt := 55) X dX17_goes_7 rfl ?_ ?_
  · refine vv_iconst (pc := 55) X dX17_goes_55 ?_
    exact vv_iret1 X rfl rfl dX17_goes_56
  · refine vv_aload_n (pc := 10) X (kf := 0) (i := 0) rfl 0 rfl dX17_goes_10 ?_
    refine vv_getR (pc := 11) X (fun _ z => by cases List.mem_singleton.mp z; exact fl_X17_10_13) dX17_goes_11 (fun v2 => ?_)
    refine vv_rcv (fun b5 t9 c9 fs9 e6 g9 k9 => ?_)
    cases List.mem_singleton.mp k9
    refine vv_callR (pc := 14) (rest := []) (by rw [e6]; rfl) (fun r8 k8 e8 => zz_callU X (m_J20_iterator (hlM X) _ _ _ _ e8) g9 rfl q2469 q2470 (va_Decl.of (X.1.2.2.2.2 _ q2473) (X.1.2.2.2.2 _ q2474)) (by decide) q2473 q2472 q161 q2474 rfl (by decide) (by decide) (Nat.le_of_ble_eq_true rfl) dX17_goes_14) (fun v3 h4 => ?_)
    refine vv_astore_n (pc := 17) (lv' := [(2, LR v3), (0, LR x0), (1, LI x1)]) X (kf := 2) (i := 2) rfl (by decide) rfl dX17_goes_17 ?_
    exact vv_sub [1, 2, 0] (by rfl) (B_X17_goes_3_18 X r2 hr2 _ _ _ _)
theorem B_X17_goes_3_2 {M : hp_M} {G : va_G} {h0 : HP} (X : hp_X M G h0 "RenamedWords$Script" "goes" cX17_goes 4 (some .boolean) [] 14 429) : ∀ (x0 : Option Nat) (x1 : Int) (h : HP), vv M G h0 4 (hp_End M G h0) jI h 2 [(0, LR x0), (1, LI x1)] [] (b_X17_goes_3_2 x0 x1 h) := by
  unfold b_X17_goes_3_2
  generalize FU = n
  induction n with
  | zero => intro x0 x1 h; exact vv_none
  | succ n ih => exact C_X17_goes_3_2 X _ ih
noncomputable def f_X17_goes_3 (a0 : Nat) (h : HP) : Option ((Int) × HP) :=
  b_X17_goes_3_2 (some a0) 0 h
theorem A_X17_goes_3 {M : hp_M} {G : va_G} {h0 : HP} (X : hp_X M G h0 "RenamedWords$Script" "goes" cX17_goes 4 (some .boolean) [] 14 429) (a0 : Nat) (h : HP) : vv M G h0 4 (hp_End M G h0) jI h 0 [(0, LR (some a0))] [] (f_X17_goes_3 a0 h) := by
  unfold f_X17_goes_3
  refine vv_iconst (pc := 0) X dX17_goes_0 ?_
  refine vv_istore_n (pc := 1) (lv' := [(1, LI 0), (0, LR (some a0))]) X (kf := 1) (i := 1) rfl (by decide) rfl dX17_goes_1 ?_
  exact vv_sub [1, 0] (by rfl) (B_X17_goes_3_2 X _ _ _)
theorem m_X17_goes_3 {l : Launch} (hl : l.stackTraces = false) {G : va_G} (a0 : Nat) (h : HP) : ∀ r hf, f_X17_goes_3 a0 h = some (r, hf) → Ct l yX17_goes (ws_ yX17_goes cX17_goes 4 (some .boolean)) 14 429 G h [.ref a0] (jI r) hf :=
  zz_ofW hl (by decide +kernel) (lv := [(0, LR (some a0))]) (by simp [lv_args, lvL, lvV, zz_rfc, zz_rfs, zz_ci, zz_cr, zz_cj, zz_cf, zz_cd]) (by simp [lg_sl, zz_rfc, zz_ci, zz_cr, zz_cj, zz_cf, zz_cd]) (fun _ X => A_X17_goes_3 X a0 h)
-- X1_play RenamedWords.play()I
noncomputable def b_X1_play_25 (x0 : Option Nat) (s0 : Option Nat) (h : HP) : Option ((Int) × HP) :=
  (rcv h x0 [0]).bind fun b17 =>
  hb (f_X1_failed b17 s0 h) fun v15 h16 =>
  (wrI h16 x0 [0] 5 0).bind fun h19 =>
  some (v15, h19)
theorem B_X1_play_25 {M : hp_M} {G : va_G} {h0 : HP} (X : hp_X M G h0 "RenamedWords" "play" cX1_play 5 (some .int) (tableOf [(5, 17, 25, 139), (5, 17, 39, 0), (25, 32, 39, 0), (39, 41, 39, 0)]) 19 643) (x0 : Option Nat) (s0 : Option Nat) (h : HP) : vv M G h0 5 (hp_End M G h0) jI h 25 [(0, LR x0)] [LR s0] (b_X1_play_25 x0 s0 h) := by
  unfold b_X1_play_25
  refine vv_astore_n (pc := 25) (lv' := [(2, LR s0), (0, LR x0)]) X (kf := 2) (i := 2) rfl (by decide) rfl dX1_play_25 ?_
  refine vv_aload_n (pc := 26) X (kf := 0) (i := 0) rfl 1 rfl dX1_play_26 ?_
  refine vv_aload_n (pc := 27) X (kf := 2) (i := 2) rfl 0 rfl dX1_play_27 ?_
  refine vv_rcv (fun b17 t9 c9 fs9 e18 g9 k9 => ?_)
  cases List.mem_singleton.mp k9
  refine vv_callI (pc := 28) (rest := []) (by rw [e18]; rfl) (fun r8 k8 e8 => zz_callV X (m_X1_failed (hlM X) _ _ _ _ _ e8) g9 rfl rfl q1821 q1823 qs10 q132 q1824 nh_X1 rfl (by decide) (by decide) (Nat.le_of_ble_eq_true rfl) dX1_play_28) (fun v15 h16 => ?_)
  refine vv_istore_n (pc := 31) (lv' := [(3, LI v15), (2, LR s0), (0, LR x0)]) X (kf := 3) (i := 3) rfl (by decide) rfl dX1_play_31 ?_
  refine vv_aload_n (pc := 32) X (kf := 0) (i := 0) rfl 2 rfl dX1_play_32 ?_
  refine vv_iconst (pc := 33) X dX1_play_33 ?_
  refine vv_putI (pc := 34) (fin := false) X (fun _ z => by cases List.mem_singleton.mp z; exact fl_X1_124_0) (fun z => nomatch z) (fun z => nomatch z) dX1_play_34 (fun h19 => ?_)
  refine vv_iload_n (pc := 37) X (kf := 3) (i := 3) rfl 0 rfl dX1_play_37 ?_
  exact vv_iretI X rfl rfl dX1_play_38
noncomputable def f_X1_play (a0 : Nat) (h : HP) : Option ((Int) × HP) :=
  (wrI h (some a0) [0] 6 (-1)).bind fun h1 =>
  hb (nwO h1 (hp_n h1 + 2) 12 [.inl 0, .inl 0, .inl 0, .inl 0, .inr (.inl none), .inr (.inl none), .inr (.inl none), .inl 0, .inl 0, .inr (.inl none)] 10) fun v2 h3 =>
  (v2).bind fun b6 =>
  hb (f_X15_init b6 (some a0) h3) fun _ h5 =>
  (rcv h5 v2 [12]).bind fun b10 =>
  hbx (f_X15_reads b10 h5) (fun q12 h13 =>
      (clsOf h13 q12).bind fun c14 =>
      if c14 = 9 then
        b_X1_play_25 (some a0) (some q12) h13
      else
        none) fun v8 h9 =>
  (wrI h9 (some a0) [0] 5 0).bind fun h20 =>
  (rcv h20 (some a0) [0]).bind fun b23 =>
  hb (f_X1_copied b23 h20) fun v21 h22 =>
  (rcv h22 (some a0) [0]).bind fun b27 =>
  hb (f_X1_act b27 v21 h22) fun _ h26 =>
  (wrI h26 (some a0) [0] 7 0).bind fun h29 =>
  (rcv h29 v8 [13]).bind fun b32 =>
  hb (f_X17_goes_3 b32 h29) fun v30 h31 =>
  (rdI h31 (some a0) [0] 7).bind fun v34 =>
  some (v34, h31)
theorem A_X1_play {M : hp_M} {G : va_G} {h0 : HP} (X : hp_X M G h0 "RenamedWords" "play" cX1_play 5 (some .int) (tableOf [(5, 17, 25, 139), (5, 17, 39, 0), (25, 32, 39, 0), (39, 41, 39, 0)]) 19 643) (a0 : Nat) (h : HP) : vv M G h0 5 (hp_End M G h0) jI h 0 [(0, LR (some a0))] [] (f_X1_play a0 h) := by
  unfold f_X1_play
  refine vv_aload_n (pc := 0) X (kf := 0) (i := 0) rfl 0 rfl dX1_play_0 ?_
  refine vv_iconst (pc := 1) X dX1_play_1 ?_
  refine vv_putI (pc := 2) (fin := false) X (fun _ z => by cases List.mem_singleton.mp z; exact fl_X1_63_0) (fun z => nomatch z) (fun z => nomatch z) dX1_play_2 (fun h1 => ?_)
  refine vv_new (pc := 5) X tyX15 rfl in_X15 tyX15_ok q1840 q1841 q180 ndX15 (by decide) dX1_play_5 (fun v2 h3 => ?_)
  refine vv_dup (pc := 8) X rfl dX1_play_8 ?_
  refine vv_aload_n (pc := 9) X (kf := 0) (i := 0) rfl 0 rfl dX1_play_9 ?_
  refine vv_bnd (fun b6 e7 => ?_)
  refine vv_callV (pc := 10) (rest := [LR v2]) (by rw [e7]; rfl) (fun r8 k8 e8 => zz_callIN X (m_X15_init (hlM X) _ _ _ _ _ e8) q1842 q1843 q180 q1844 rfl nh_X15 rfl (by decide) (by decide) (Nat.le_of_ble_eq_true rfl) dX1_play_10) (fun v4 h5 => ?_)
  refine vv_rcv (fun b10 t9 c9 fs9 e11 g9 k9 => ?_)
  cases List.mem_singleton.mp k9
  refine vv_xallR (pc := 13) (rest := []) (by rw [e11]; rfl) (fun r8 k8 e8 => zz_callV X (m_X15_reads (hlM X) _ _ _ _ e8) g9 rfl rfl q1870 q1871 q1872 q180 q1873 nh_X15 rfl (by decide) (by decide) (Nat.le_of_ble_eq_true rfl) dX1_play_13) (fun v8 h9 => ?_) (fun q12 h13 => ?_)
  · refine vv_astore_n (pc := 16) (lv' := [(1, LR v8), (0, LR (some a0))]) X (kf := 1) (i := 1) rfl (by decide) rfl dX1_play_16 ?_
    refine vv_aload_n (pc := 17) X (kf := 0) (i := 0) rfl 1 rfl dX1_play_17 ?_
    refine vv_iconst (pc := 18) X dX1_play_18 ?_
    refine vv_putI (pc := 19) (fin := false) X (fun _ z => by cases List.mem_singleton.mp z; exact fl_X1_124_0) (fun z => nomatch z) (fun z => nomatch z) dX1_play_19 (fun h20 => ?_)
    refine vv_goto (pc := 22) (tgt := 49) X dX1_play_22 rfl ?_
    refine vv_aload_n (pc := 49) X (kf := 0) (i := 0) rfl 1 rfl dX1_play_49 ?_
    refine vv_aload_n (pc := 50) X (kf := 0) (i := 0) rfl 1 rfl dX1_play_50 ?_
    refine vv_rcv (fun b23 t9 c9 fs9 e24 g9 k9 => ?_)
    cases List.mem_singleton.mp k9
    refine vv_callR (pc := 51) (rest := [LR (some a0)]) (by rw [e24]; rfl) (fun r8 k8 e8 => zz_callV X (m_X1_copied (hlM X) _ _ _ _ e8) g9 rfl rfl q2119 q2121 qs23 q132 q2122 nh_X1 rfl (by decide) (by decide) (Nat.le_of_ble_eq_true rfl) dX1_play_51) (fun v21 h22 => ?_)
    refine vv_rcv (fun b27 t9 c9 fs9 e28 g9 k9 => ?_)
    cases List.mem_singleton.mp k9
    refine vv_callV (pc := 54) (rest := []) (by rw [e28]; rfl) (fun r8 k8 e8 => zz_callV X (m_X1_act (hlM X) _ _ _ _ _ e8) g9 rfl rfl q2426 q2428 qs27 q132 q2429 nh_X1 rfl (by decide) (by decide) (Nat.le_of_ble_eq_true rfl) dX1_play_54) (fun v25 h26 => ?_)
    refine vv_aload_n (pc := 57) X (kf := 0) (i := 0) rfl 1 rfl dX1_play_57 ?_
    refine vv_iconst (pc := 58) X dX1_play_58 ?_
    refine vv_putI (pc := 59) (fin := false) X (fun _ z => by cases List.mem_singleton.mp z; exact fl_X1_175_0) (fun z => nomatch z) (fun z => nomatch z) dX1_play_59 (fun h29 => ?_)
    refine vv_aload_n (pc := 62) X (kf := 1) (i := 1) rfl 0 rfl dX1_play_62 ?_
    refine vv_rcv (fun b32 t9 c9 fs9 e33 g9 k9 => ?_)
    cases List.mem_singleton.mp k9
    refine vv_callI (pc := 63) (rest := []) (by rw [e33]; rfl) (fun r8 k8 e8 => zz_callV X (m_X17_goes_3 (hlM X) _ _ _ _ e8) g9 rfl rfl q2465 q2466 q2467 q182 q2468 nh_X17 rfl (by decide) (by decide) (Nat.le_of_ble_eq_true rfl) dX1_play_63) (fun v30 h31 => ?_)
    refine vv_istore_n (pc := 66) (lv' := [(2, LI v30), (1, LR v8), (0, LR (some a0))]) X (kf := 2) (i := 2) rfl (by decide) rfl dX1_play_66 ?_
    refine vv_aload_n (pc := 67) X (kf := 0) (i := 0) rfl 2 rfl dX1_play_67 ?_
    refine vv_getI (pc := 68) X (fun _ z => by cases List.mem_singleton.mp z; exact fl_X1_175_0) dX1_play_68 (fun v34 => ?_)
    exact vv_iretI X rfl rfl dX1_play_71
  · refine vvx_cls (fun _ c14 _ g9 => ?_)
    refine vvx_if (fun e9 => ?_) (fun _ => ?_)
    · subst e9
      refine vvx_catch X g9 rfl [] ⟨5, 17, 25, 139⟩ [⟨5, 17, 39, 0⟩, ⟨25, 32, 39, 0⟩, ⟨39, 41, 39, 0⟩] rfl (fun z hz => nomatch hz) rfl (by decide) q846 q972 ?_
      exact B_X1_play_25 X _ _ _
    · exact vvx_none
theorem m_X1_play {l : Launch} (hl : l.stackTraces = false) {G : va_G} (a0 : Nat) (h : HP) : ∀ r hf, f_X1_play a0 h = some (r, hf) → Ct l yX1_play (wsW_ yX1_play cX1_play 5 (some .int) [(5, 17, 25, 139), (5, 17, 39, 0), (25, 32, 39, 0), (39, 41, 39, 0)]) 19 643 G h [.ref a0] (jI r) hf :=
  zz_ofWH hl (by decide +kernel) (lv := [(0, LR (some a0))]) (by simp [lv_args, lvL, lvV, zz_rfc, zz_rfs, zz_ci, zz_cr, zz_cj, zz_cf, zz_cd]) (by simp [lg_sl, zz_rfc, zz_ci, zz_cr, zz_cj, zz_cf, zz_cd]) (fun _ X => A_X1_play X a0 h)
