/-! STAGE 1c: functions and contracts (printed by gen/mkfuncs.py). -/
set_option maxRecDepth 100000
set_option linter.unusedVariables false
-- J22_sub java/util/ArrayDeque.sub(III)I
noncomputable def b_J22_sub_12 (x0 : Int) (h : HP) : Option ((Int) × HP) :=
  some (x0, h)
theorem B_J22_sub_12 {M : hp_M} {G : va_G} {h0 : HP} (X : hp_X M G h0 "java/util/ArrayDeque" "sub" cJ22_sub 3 (some .int) [] 0 0) (x0 : Int) (h : HP) : vv M G h0 3 (hp_End M G h0) jI h 12 [(0, LI x0)] [] (b_J22_sub_12 x0 h) := by
  unfold b_J22_sub_12
  refine vv_iload_n (pc := 12) X (kf := 0) (i := 0) rfl 0 rfl dJ22_sub_12 ?_
  exact vv_iretI X rfl rfl dJ22_sub_13
noncomputable def f_J22_sub (a1 : Int) (a2 : Int) (a3 : Int) (h : HP) : Option ((Int) × HP) :=
  iLE 0 (a1 - a2)
    (b_J22_sub_12 (a1 - a2) h)
    (b_J22_sub_12 ((a1 - a2) + a3) h)
theorem A_J22_sub {M : hp_M} {G : va_G} {h0 : HP} (X : hp_X M G h0 "java/util/ArrayDeque" "sub" cJ22_sub 3 (some .int) [] 0 0) (a1 : Int) (a2 : Int) (a3 : Int) (h : HP) : vv M G h0 3 (hp_End M G h0) jI h 0 [(0, LI a1), (1, LI a2), (2, LI a3)] [] (f_J22_sub a1 a2 a3 h) := by
  unfold f_J22_sub
  refine vv_iload_n (pc := 0) X (kf := 0) (i := 0) rfl 0 rfl dJ22_sub_0 ?_
  refine vv_iload_n (pc := 1) X (kf := 1) (i := 1) rfl 1 rfl dJ22_sub_1 ?_
  refine vv_isub (pc := 2) X dJ22_sub_2 ?_
  refine vv_dup (pc := 3) X rfl dJ22_sub_3 ?_
  refine vv_istore_n (pc := 4) (lv' := [(0, LI (a1 - a2)), (1, LI a2), (2, LI a3)]) X (kf := 0) (i := 0) rfl (by decide) rfl dJ22_sub_4 ?_
  refine vv_if_ge (pc := 5) (tgt := 12) X dJ22_sub_5 rfl ?_ ?_
  · exact vv_sub [0] (by rfl) (B_J22_sub_12 X _ _)
  · refine vv_iload_n (pc := 8) X (kf := 0) (i := 0) rfl 0 rfl dJ22_sub_8 ?_
    refine vv_iload_n (pc := 9) X (kf := 2) (i := 2) rfl 2 rfl dJ22_sub_9 ?_
    refine vv_iadd (pc := 10) X dJ22_sub_10 ?_
    refine vv_istore_n (pc := 11) (lv' := [(0, LI ((a1 - a2) + a3)), (1, LI a2), (2, LI a3)]) X (kf := 0) (i := 0) rfl (by decide) rfl dJ22_sub_11 ?_
    exact vv_sub [0] (by rfl) (B_J22_sub_12 X _ _)
theorem m_J22_sub {l : Launch} (hl : l.stackTraces = false) {G : va_G} (a1 : Int) (a2 : Int) (a3 : Int) (h : HP) : ∀ r hf, f_J22_sub a1 a2 a3 h = some (r, hf) → Ct l yJ22_sub (ws_ yJ22_sub cJ22_sub 3 (some .int)) 0 0 G h [.int (iI a1), .int (iI a2), .int (iI a3)] (jI r) hf :=
  zz_ofW hl (by decide +kernel) (lv := [(0, LI a1), (1, LI a2), (2, LI a3)]) (by simp [lv_args, lvL, lvV, zz_rfc, zz_rfs, zz_ci, zz_cr, zz_cj, zz_cf, zz_cd]) (by simp [lg_sl, zz_rfc, zz_ci, zz_cr, zz_cj, zz_cf, zz_cd]) (fun _ X => A_J22_sub X a1 a2 a3 h)
-- J22_size java/util/ArrayDeque.size()I
noncomputable def f_J22_size (a0 : Nat) (h : HP) : Option ((Int) × HP) :=
  (rdI h (some a0) [29] 2).bind fun v1 =>
  (rdI h (some a0) [29] 1).bind fun v2 =>
  (rdR h (some a0) [29] 0).bind fun v3 =>
  (alen h v3).bind fun v4 =>
  hb (f_J22_sub v1 v2 v4 h) fun v5 h6 =>
  some (v5, h6)
theorem A_J22_size {M : hp_M} {G : va_G} {h0 : HP} (X : hp_X M G h0 "java/util/ArrayDeque" "size" cJ22_size 1 (some .int) [] 1 30) (a0 : Nat) (h : HP) : vv M G h0 1 (hp_End M G h0) jI h 0 [(0, LR (some a0))] [] (f_J22_size a0 h) := by
  unfold f_J22_size
  refine vv_aload_n (pc := 0) X (kf := 0) (i := 0) rfl 0 rfl dJ22_size_0 ?_
  refine vv_getI (pc := 1) X (fun _ z => by cases List.mem_singleton.mp z; exact fl_J22_20_29) dJ22_size_1 (fun v1 => ?_)
  refine vv_aload_n (pc := 4) X (kf := 0) (i := 0) rfl 0 rfl dJ22_size_4 ?_
  refine vv_getI (pc := 5) X (fun _ z => by cases List.mem_singleton.mp z; exact fl_J22_24_29) dJ22_size_5 (fun v2 => ?_)
  refine vv_aload_n (pc := 8) X (kf := 0) (i := 0) rfl 0 rfl dJ22_size_8 ?_
  refine vv_getR (pc := 9) X (fun _ z => by cases List.mem_singleton.mp z; exact fl_J22_3_29) dJ22_size_9 (fun v3 => ?_)
  refine vv_alen (pc := 12) X dJ22_size_12 (fun v4 => ?_)
  refine vv_callI (pc := 13) (rest := []) (by rfl) (fun r8 k8 e8 => zz_callS X (m_J22_sub (hlM X) _ _ _ _ _ _ e8) q2999 q3000 q163 q3001 nh_J22 rfl (by decide) (by decide) (Nat.le_of_ble_eq_true rfl) dJ22_size_13) (fun v5 h6 => ?_)
  exact vv_iretI X rfl rfl dJ22_size_16
theorem m_J22_size {l : Launch} (hl : l.stackTraces = false) {G : va_G} (a0 : Nat) (h : HP) : ∀ r hf, f_J22_size a0 h = some (r, hf) → Ct l yJ22_size (ws_ yJ22_size cJ22_size 1 (some .int)) 1 30 G h [.ref a0] (jI r) hf :=
  zz_ofW hl (by decide +kernel) (lv := [(0, LR (some a0))]) (by simp [lv_args, lvL, lvV, zz_rfc, zz_rfs, zz_ci, zz_cr, zz_cj, zz_cf, zz_cd]) (by simp [lg_sl, zz_rfc, zz_ci, zz_cr, zz_cj, zz_cf, zz_cd]) (fun _ X => A_J22_size X a0 h)
-- J2_isEmpty java/util/AbstractCollection.isEmpty()Z
noncomputable def dsp_AbstractCollection_size_24_28_29 (b : Nat)  (h : HP) : Option ((Int) × HP) := (clsOf h b).bind fun c => if c = 24 then f_J4_size b  h else if c = 28 then f_J21_size b  h else if c = 29 then f_J22_size b  h else none
theorem Zdsp_AbstractCollection_size_24_28_29 {M : hp_M} {G : va_G} {h0 h : HP} {own nm : String} {cc : ByteArray} {nL F L : Nat} {ret : Option FieldType} {tb : List ExceptionTableEntry} (X : hp_X M G h0 own nm cc nL ret tb F L) {b ix pc : Nat}  {rest : List Value} (q1 : Cond.methodLink own ix (⟨"java/util/AbstractCollection", "size", "()I"⟩ : MethodName) ∈ lw_all) (d : decode cc pc = .ok (.invokevirtual ix, 3)) (hF : 2 ≤ F) (hL : 58 ≤ L) (hr : rest.length ≤ 8) {r8 : Int} {k8 : HP} (e : dsp_AbstractCollection_size_24_28_29 b  h = some (r8, k8)) : zz_run M G h0 nL h pc (pc + 3) ([].reverse ++ .ref b :: rest) rest (jI r8) k8 := by
  unfold dsp_AbstractCollection_size_24_28_29 at e
  obtain ⟨c, hc, e⟩ := Option.bind_eq_some_iff.mp e
  obtain ⟨t9, fs9, g9⟩ := clsOf_some hc
  by_cases z0 : c = 24
  · subst z0
    have e8 : f_J4_size b  h = some (r8, k8) := by simpa using e
    exact zz_callU X (m_J4_size (hlM X) _ _ _ _ e8) g9 rfl q1 q4113 (va_Decl.abs (X.2.1.2.1 _ q2188 rfl)) (by decide) q1124 q4115 q139 q1126 rfl (by omega) (by omega) hr d
  by_cases z1 : c = 28
  · subst z1
    have e8 : f_J21_size b  h = some (r8, k8) := by simpa using e
    exact zz_callU X (m_J21_size (hlM X) _ _ _ _ e8) g9 rfl q1 q4113 (va_Decl.abs (X.2.1.2.1 _ q2188 rfl)) (by decide) q1130 q4116 q162 q1132 rfl (by omega) (by omega) hr d
  by_cases z2 : c = 29
  · subst z2
    have e8 : f_J22_size b  h = some (r8, k8) := by simpa using e
    exact zz_callU X (m_J22_size (hlM X) _ _ _ _ e8) g9 rfl q1 q4113 (va_Decl.abs (X.2.1.2.1 _ q2188 rfl)) (by decide) q2997 q4114 q163 q2998 rfl (by omega) (by omega) hr d
  simp [z0, z1, z2] at e

noncomputable def b_J2_isEmpty_12 (s0 : Int) (h : HP) : Option ((Int) × HP) :=
  rtZ s0 (some (s0, h))
theorem B_J2_isEmpty_12 {M : hp_M} {G : va_G} {h0 : HP} (X : hp_X M G h0 "java/util/AbstractCollection" "isEmpty" cJ2_isEmpty 1 (some .boolean) [] 2 58) (s0 : Int) (h : HP) : vv M G h0 1 (hp_End M G h0) jI h 12 [] [LI s0] (b_J2_isEmpty_12 s0 h) := by
  unfold b_J2_isEmpty_12
  exact vv_iretZ X rfl rfl dJ2_isEmpty_12
noncomputable def f_J2_isEmpty (a0 : Nat) (h : HP) : Option ((Int) × HP) :=
  ((some a0)).bind fun b3 =>
  hb (dsp_AbstractCollection_size_24_28_29 b3 h) fun v1 h2 =>
  iEQ v1 0
    (b_J2_isEmpty_12 1 h2)
    (b_J2_isEmpty_12 0 h2)
theorem A_J2_isEmpty {M : hp_M} {G : va_G} {h0 : HP} (X : hp_X M G h0 "java/util/AbstractCollection" "isEmpty" cJ2_isEmpty 1 (some .boolean) [] 2 58) (a0 : Nat) (h : HP) : vv M G h0 1 (hp_End M G h0) jI h 0 [(0, LR (some a0))] [] (f_J2_isEmpty a0 h) := by
  unfold f_J2_isEmpty
  refine vv_aload_n (pc := 0) X (kf := 0) (i := 0) rfl 0 rfl dJ2_isEmpty_0 ?_
  refine vv_bnd (fun b3 e4 => ?_)
  refine vv_callI (pc := 1) (rest := []) (by rw [e4]; rfl) (fun r8 k8 e8 => Zdsp_AbstractCollection_size_24_28_29 X q2996 dJ2_isEmpty_1 (by decide) (by decide) (Nat.le_of_ble_eq_true rfl) e8) (fun v1 h2 => ?_)
  refine vv_if_ne (pc := 4) (tgt := 11) X dJ2_isEmpty_4 rfl ?_ ?_
  · refine vv_iconst (pc := 11) X dJ2_isEmpty_11 ?_
    exact vv_sub [] (by rfl) (B_J2_isEmpty_12 X _ _)
  · refine vv_iconst (pc := 7) X dJ2_isEmpty_7 ?_
    refine vv_goto (pc := 8) (tgt := 12) X dJ2_isEmpty_8 rfl ?_
    exact vv_sub [] (by rfl) (B_J2_isEmpty_12 X _ _)
theorem m_J2_isEmpty {l : Launch} (hl : l.stackTraces = false) {G : va_G} (a0 : Nat) (h : HP) : ∀ r hf, f_J2_isEmpty a0 h = some (r, hf) → Ct l yJ2_isEmpty (ws_ yJ2_isEmpty cJ2_isEmpty 1 (some .boolean)) 2 58 G h [.ref a0] (jI r) hf :=
  zz_ofW hl (by decide +kernel) (lv := [(0, LR (some a0))]) (by simp [lv_args, lvL, lvV, zz_rfc, zz_rfs, zz_ci, zz_cr, zz_cj, zz_cf, zz_cd]) (by simp [lg_sl, zz_rfc, zz_ci, zz_cr, zz_cj, zz_cf, zz_cd]) (fun _ X => A_J2_isEmpty X a0 h)
-- J21_unlinkLast java/util/LinkedList.unlinkLast(Ljava/util/LinkedList$Node;)Ljava/lang/Object;
noncomputable def b_J21_unlinkLast_42 (x0 : Option Nat) (x2 : Option Nat) (h : HP) : Option ((Option Nat) × HP) :=
  (rdI h x0 [28] 1).bind fun v7 =>
  (wrI h x0 [28] 1 (v7 - 1)).bind fun h8 =>
  (rdI h8 x0 [24, 28] 0).bind fun v9 =>
  (wrI h8 x0 [24, 28] 0 (v9 + 1)).bind fun h10 =>
  some (x2, h10)
theorem B_J21_unlinkLast_42 {M : hp_M} {G : va_G} {h0 : HP} (X : hp_X M G h0 "java/util/LinkedList" "unlinkLast" cJ21_unlinkLast 4 (some (.object "java/lang/Object")) [] 0 0) (x0 : Option Nat) (x2 : Option Nat) (h : HP) : vv M G h0 4 (hp_End M G h0) jR h 42 [(0, LR x0), (2, LR x2)] [] (b_J21_unlinkLast_42 x0 x2 h) := by
  unfold b_J21_unlinkLast_42
  refine vv_aload_n (pc := 42) X (kf := 0) (i := 0) rfl 0 rfl dJ21_unlinkLast_42 ?_
  refine vv_dup (pc := 43) X rfl dJ21_unlinkLast_43 ?_
  refine vv_getI (pc := 44) X (fun _ z => by cases List.mem_singleton.mp z; exact fl_J21_7_28) dJ21_unlinkLast_44 (fun v7 => ?_)
  refine vv_iconst (pc := 47) X dJ21_unlinkLast_47 ?_
  refine vv_isub (pc := 48) X dJ21_unlinkLast_48 ?_
  refine vv_putI (pc := 49) (fin := false) X (fun _ z => by cases List.mem_singleton.mp z; exact fl_J21_7_28) (fun z => nomatch z) (fun z => nomatch z) dJ21_unlinkLast_49 (fun h8 => ?_)
  refine vv_aload_n (pc := 52) X (kf := 0) (i := 0) rfl 0 rfl dJ21_unlinkLast_52 ?_
  refine vv_dup (pc := 53) X rfl dJ21_unlinkLast_53 ?_
  refine vv_getI (pc := 54) X (fun _ z => by rcases List.mem_cons.mp z with rfl | z; exact fl_J21_33_24; cases List.mem_singleton.mp z; exact fl_J21_33_28) dJ21_unlinkLast_54 (fun v9 => ?_)
  refine vv_iconst (pc := 57) X dJ21_unlinkLast_57 ?_
  refine vv_iadd (pc := 58) X dJ21_unlinkLast_58 ?_
  refine vv_putI (pc := 59) (fin := false) X (fun _ z => by rcases List.mem_cons.mp z with rfl | z; exact fl_J21_33_24; cases List.mem_singleton.mp z; exact fl_J21_33_28) (fun z => nomatch z) (fun z => nomatch z) dJ21_unlinkLast_59 (fun h10 => ?_)
  refine vv_aload_n (pc := 62) X (kf := 2) (i := 2) rfl 1 rfl dJ21_unlinkLast_62 ?_
  exact vv_aretO X rfl rfl dJ21_unlinkLast_63
noncomputable def f_J21_unlinkLast (a0 : Nat) (a1 : Option Nat) (h : HP) : Option ((Option Nat) × HP) :=
  (rdR h a1 [31] 0).bind fun v1 =>
  (rdR h a1 [31] 2).bind fun v2 =>
  (wrR h a1 [31] 0 none).bind fun h3 =>
  (wrR h3 a1 [31] 2 none).bind fun h4 =>
  (wrR h4 (some a0) [28] 3 v2).bind fun h5 =>
  rNU v2
    ((wrR h5 (some a0) [28] 2 none).bind fun h11 =>
    b_J21_unlinkLast_42 (some a0) v1 h11)
    ((wrR h5 v2 [31] 1 none).bind fun h6 =>
    b_J21_unlinkLast_42 (some a0) v1 h6)
theorem A_J21_unlinkLast {M : hp_M} {G : va_G} {h0 : HP} (X : hp_X M G h0 "java/util/LinkedList" "unlinkLast" cJ21_unlinkLast 4 (some (.object "java/lang/Object")) [] 0 0) (a0 : Nat) (a1 : Option Nat) (h : HP) : vv M G h0 4 (hp_End M G h0) jR h 0 [(0, LR (some a0)), (1, LR a1)] [] (f_J21_unlinkLast a0 a1 h) := by
  unfold f_J21_unlinkLast
  refine vv_aload_n (pc := 0) X (kf := 1) (i := 1) rfl 1 rfl dJ21_unlinkLast_0 ?_
  refine vv_getR (pc := 1) X (fun _ z => by cases List.mem_singleton.mp z; exact fl_J21_39_31) dJ21_unlinkLast_1 (fun v1 => ?_)
  refine vv_astore_n (pc := 4) (lv' := [(2, LR v1), (0, LR (some a0)), (1, LR a1)]) X (kf := 2) (i := 2) rfl (by decide) rfl dJ21_unlinkLast_4 ?_
  refine vv_aload_n (pc := 5) X (kf := 1) (i := 1) rfl 2 rfl dJ21_unlinkLast_5 ?_
  refine vv_getR (pc := 6) X (fun _ z => by cases List.mem_singleton.mp z; exact fl_J21_30_31) dJ21_unlinkLast_6 (fun v2 => ?_)
  refine vv_astore_n (pc := 9) (lv' := [(3, LR v2), (2, LR v1), (0, LR (some a0)), (1, LR a1)]) X (kf := 3) (i := 3) rfl (by decide) rfl dJ21_unlinkLast_9 ?_
  refine vv_aload_n (pc := 10) X (kf := 1) (i := 1) rfl 3 rfl dJ21_unlinkLast_10 ?_
  refine vv_null (pc := 11) X dJ21_unlinkLast_11 ?_
  refine vv_putR (pc := 12) (ty9 := (.object "java/lang/Object")) (fin := false) X (fun _ z => by cases List.mem_singleton.mp z; exact fl_J21_39_31) (fun z => nomatch z) (fun z => nomatch z) (by decide +kernel) rfl dJ21_unlinkLast_12 (fun h3 => ?_)
  refine vv_aload_n (pc := 15) X (kf := 1) (i := 1) rfl 3 rfl dJ21_unlinkLast_15 ?_
  refine vv_null (pc := 16) X dJ21_unlinkLast_16 ?_
  refine vv_putR (pc := 17) (ty9 := (.object "java/util/LinkedList$Node")) (fin := false) X (fun _ z => by cases List.mem_singleton.mp z; exact fl_J21_30_31) (fun z => nomatch z) (fun z => nomatch z) (by decide +kernel) rfl dJ21_unlinkLast_17 (fun h4 => ?_)
  refine vv_aload_n (pc := 20) X (kf := 0) (i := 0) rfl 2 rfl dJ21_unlinkLast_20 ?_
  refine vv_aload_n (pc := 21) X (kf := 3) (i := 3) rfl 0 rfl dJ21_unlinkLast_21 ?_
  refine vv_putR (pc := 22) (ty9 := (.object "java/util/LinkedList$Node")) (fin := false) X (fun _ z => by cases List.mem_singleton.mp z; exact fl_J21_27_28) (fun z => nomatch z) (fun z => nomatch z) (by decide +kernel) rfl dJ21_unlinkLast_22 (fun h5 => ?_)
  refine vv_aload_n (pc := 25) X (kf := 3) (i := 3) rfl 0 rfl dJ21_unlinkLast_25 ?_
  refine vv_ifnonnull (pc := 26) (tgt := 37) X dJ21_unlinkLast_26 rfl ?_ ?_
  · refine vv_aload_n (pc := 37) X (kf := 3) (i := 3) rfl 0 rfl dJ21_unlinkLast_37 ?_
    refine vv_null (pc := 38) X dJ21_unlinkLast_38 ?_
    refine vv_putR (pc := 39) (ty9 := (.object "java/util/LinkedList$Node")) (fin := false) X (fun _ z => by cases List.mem_singleton.mp z; exact fl_J21_36_31) (fun z => nomatch z) (fun z => nomatch z) (by decide +kernel) rfl dJ21_unlinkLast_39 (fun h6 => ?_)
    exact vv_sub [2, 1] (by rfl) (B_J21_unlinkLast_42 X _ _ _)
  · refine vv_aload_n (pc := 29) X (kf := 0) (i := 0) rfl 2 rfl dJ21_unlinkLast_29 ?_
    refine vv_null (pc := 30) X dJ21_unlinkLast_30 ?_
    refine vv_putR (pc := 31) (ty9 := (.object "java/util/LinkedList$Node")) (fin := false) X (fun _ z => by cases List.mem_singleton.mp z; exact fl_J21_18_28) (fun z => nomatch z) (fun z => nomatch z) (by decide +kernel) rfl dJ21_unlinkLast_31 (fun h11 => ?_)
    refine vv_goto (pc := 34) (tgt := 42) X dJ21_unlinkLast_34 rfl ?_
    exact vv_sub [2, 1] (by rfl) (B_J21_unlinkLast_42 X _ _ _)
theorem m_J21_unlinkLast {l : Launch} (hl : l.stackTraces = false) {G : va_G} (a0 : Nat) (a1 : Option Nat) (h : HP) : ∀ r hf, f_J21_unlinkLast a0 a1 h = some (r, hf) → Ct l yJ21_unlinkLast (ws_ yJ21_unlinkLast cJ21_unlinkLast 4 (some (.object "java/lang/Object"))) 0 0 G h [.ref a0, va_rf a1] (jR r) hf :=
  zz_ofW hl (by decide +kernel) (lv := [(0, LR (some a0)), (1, LR a1)]) (by simp [lv_args, lvL, lvV, zz_rfc, zz_rfs, zz_ci, zz_cr, zz_cj, zz_cf, zz_cd]) (by simp [lg_sl, zz_rfc, zz_ci, zz_cr, zz_cj, zz_cf, zz_cd]) (fun _ X => A_J21_unlinkLast X a0 a1 h)
-- J21_removeLast java/util/LinkedList.removeLast()Ljava/lang/Object;
noncomputable def f_J21_removeLast (a0 : Nat) (h : HP) : Option ((Option Nat) × HP) :=
  (rdR h (some a0) [28] 3).bind fun v1 =>
  rNU v1
    (none)
    ((rcv h (some a0) [28]).bind fun b4 =>
    hb (f_J21_unlinkLast b4 v1 h) fun v2 h3 =>
    some (v2, h3))
theorem A_J21_removeLast {M : hp_M} {G : va_G} {h0 : HP} (X : hp_X M G h0 "java/util/LinkedList" "removeLast" cJ21_removeLast 2 (some (.object "java/lang/Object")) [] 1 31) (a0 : Nat) (h : HP) : vv M G h0 2 (hp_End M G h0) jR h 0 [(0, LR (some a0))] [] (f_J21_removeLast a0 h) := by
  unfold f_J21_removeLast
  refine vv_aload_n (pc := 0) X (kf := 0) (i := 0) rfl 0 rfl dJ21_removeLast_0 ?_
  refine vv_getR (pc := 1) X (fun _ z => by cases List.mem_singleton.mp z; exact fl_J21_27_28) dJ21_removeLast_1 (fun v1 => ?_)
  refine vv_astore_n (pc := 4) (lv' := [(1, LR v1), (0, LR (some a0))]) X (kf := 1) (i := 1) rfl (by decide) rfl dJ21_removeLast_4 ?_
  refine vv_aload_n (pc := 5) X (kf := 1) (i := 1) rfl 0 rfl dJ21_removeLast_5 ?_
  refine vv_ifnonnull (pc := 6) (tgt := 17) X dJ21_removeLast_6 rfl ?_ ?_
  · refine vv_aload_n (pc := 17) X (kf := 0) (i := 0) rfl 1 rfl dJ21_removeLast_17 ?_
    refine vv_aload_n (pc := 18) X (kf := 1) (i := 1) rfl 0 rfl dJ21_removeLast_18 ?_
    refine vv_rcv (fun b4 t9 c9 fs9 e5 g9 k9 => ?_)
    cases List.mem_singleton.mp k9
    refine vv_callR (pc := 19) (rest := []) (by rw [e5]; rfl) (fun r8 k8 e8 => zz_callV X (m_J21_unlinkLast (hlM X) _ _ _ _ _ e8) g9 rfl rfl q3006 q3008 qs43 q162 q3009 nh_J21 rfl (by decide) (by decide) (Nat.le_of_ble_eq_true rfl) dJ21_removeLast_19) (fun v2 h3 => ?_)
    exact vv_aretO X rfl rfl dJ21_removeLast_22
  · exact vv_none
theorem m_J21_removeLast {l : Launch} (hl : l.stackTraces = false) {G : va_G} (a0 : Nat) (h : HP) : ∀ r hf, f_J21_removeLast a0 h = some (r, hf) → Ct l yJ21_removeLast (ws_ yJ21_removeLast cJ21_removeLast 2 (some (.object "java/lang/Object"))) 1 31 G h [.ref a0] (jR r) hf :=
  zz_ofW hl (by decide +kernel) (lv := [(0, LR (some a0))]) (by simp [lv_args, lvL, lvV, zz_rfc, zz_rfs, zz_ci, zz_cr, zz_cj, zz_cf, zz_cd]) (by simp [lg_sl, zz_rfc, zz_ci, zz_cr, zz_cj, zz_cf, zz_cd]) (fun _ X => A_J21_removeLast X a0 h)
-- X1_undo RenamedWords.undo()I
noncomputable def f_X1_undo (a0 : Nat) (h : HP) : Option ((Int) × HP) :=
  (rdR h (some a0) [0] 1).bind fun v1 =>
  (rcv h v1 [28]).bind fun b4 =>
  hb (f_J2_isEmpty b4 h) fun v2 h3 =>
  iEQ v2 0
    ((rdR h3 (some a0) [0] 2).bind fun v6 =>
    (rdR h3 (some a0) [0] 0).bind fun v7 =>
    (rcv h3 v6 [29]).bind fun b10 =>
    hb (f_J22_push b10 v7 h3) fun _ h9 =>
    (rdR h9 (some a0) [0] 1).bind fun v12 =>
    (rcv h9 v12 [28]).bind fun b15 =>
    hb (f_J21_removeLast b15 h9) fun v13 h14 =>
    (chk h14 v13 [1]).bind fun _ =>
    (wrR h14 (some a0) [0] 0 v13).bind fun h17 =>
    (rdR h17 (some a0) [0] 1).bind fun v18 =>
    (rcv h17 v18 [28]).bind fun b21 =>
    hb (f_J21_size b21 h17) fun v19 h20 =>
    some (v19, h20))
    (some ((-1), h3))
theorem A_X1_undo {M : hp_M} {G : va_G} {h0 : HP} (X : hp_X M G h0 "RenamedWords" "undo" cX1_undo 1 (some .int) [] 3 88) (a0 : Nat) (h : HP) : vv M G h0 1 (hp_End M G h0) jI h 0 [(0, LR (some a0))] [] (f_X1_undo a0 h) := by
  unfold f_X1_undo
  refine vv_aload_n (pc := 0) X (kf := 0) (i := 0) rfl 0 rfl dX1_undo_0 ?_
  refine vv_getR (pc := 1) X (fun _ z => by cases List.mem_singleton.mp z; exact fl_X1_42_0) dX1_undo_1 (fun v1 => ?_)
  refine vv_rcv (fun b4 t9 c9 fs9 e5 g9 k9 => ?_)
  cases List.mem_singleton.mp k9
  refine vv_callI (pc := 4) (rest := []) (by rw [e5]; rfl) (fun r8 k8 e8 => zz_callU X (m_J2_isEmpty (hlM X) _ _ _ _ e8) g9 rfl q2990 q2991 (va_Decl.of (X.1.2.2.2.2 _ q2994) (X.1.2.2.2.2 _ q2995)) (by decide) q2994 q2993 q137 q2995 rfl (by decide) (by decide) (Nat.le_of_ble_eq_true rfl) dX1_undo_4) (fun v2 h3 => ?_)
  refine vv_if_eq (pc := 7) (tgt := 12) X dX1_undo_7 rfl ?_ ?_
  · refine vv_aload_n (pc := 12) X (kf := 0) (i := 0) rfl 0 rfl dX1_undo_12 ?_
    refine vv_getR (pc := 13) X (fun _ z => by cases List.mem_singleton.mp z; exact fl_X1_49_0) dX1_undo_13 (fun v6 => ?_)
    refine vv_aload_n (pc := 16) X (kf := 0) (i := 0) rfl 0 rfl dX1_undo_16 ?_
    refine vv_getR (pc := 17) X (fun _ z => by cases List.mem_singleton.mp z; exact fl_X1_35_0) dX1_undo_17 (fun v7 => ?_)
    refine vv_rcv (fun b10 t9 c9 fs9 e11 g9 k9 => ?_)
    cases List.mem_singleton.mp k9
    refine vv_callV (pc := 20) (rest := []) (by rw [e11]; rfl) (fun r8 k8 e8 => zz_callV X (m_J22_push (hlM X) _ _ _ _ _ e8) g9 rfl rfl q2442 q2443 q2444 q163 q2445 nh_J22 rfl (by decide) (by decide) (Nat.le_of_ble_eq_true rfl) dX1_undo_20) (fun v8 h9 => ?_)
    refine vv_aload_n (pc := 23) X (kf := 0) (i := 0) rfl 0 rfl dX1_undo_23 ?_
    refine vv_aload_n (pc := 24) X (kf := 0) (i := 0) rfl 0 rfl dX1_undo_24 ?_
    refine vv_getR (pc := 25) X (fun _ z => by cases List.mem_singleton.mp z; exact fl_X1_42_0) dX1_undo_25 (fun v12 => ?_)
    refine vv_rcv (fun b15 t9 c9 fs9 e16 g9 k9 => ?_)
    cases List.mem_singleton.mp k9
    refine vv_callR (pc := 28) (rest := [LR (some a0)]) (by rw [e16]; rfl) (fun r8 k8 e8 => zz_callV X (m_J21_removeLast (hlM X) _ _ _ _ e8) g9 rfl rfl q3002 q3003 q3004 q162 q3005 nh_J21 rfl (by decide) (by decide) (Nat.le_of_ble_eq_true rfl) dX1_undo_28) (fun v13 h14 => ?_)
    refine vv_checkcast (pc := 31) X ⟨q217, (fun _ z => by cases List.mem_singleton.mp z; exact ⟨_, rfl, Or.inl rfl⟩)⟩ dX1_undo_31 ?_
    refine vv_putR (pc := 34) (ty9 := (.object "RenamedWords$Desk")) (fin := false) X (fun _ z => by cases List.mem_singleton.mp z; exact fl_X1_35_0) (fun z => nomatch z) (fun z => nomatch z) (by decide +kernel) rfl dX1_undo_34 (fun h17 => ?_)
    refine vv_aload_n (pc := 37) X (kf := 0) (i := 0) rfl 0 rfl dX1_undo_37 ?_
    refine vv_getR (pc := 38) X (fun _ z => by cases List.mem_singleton.mp z; exact fl_X1_42_0) dX1_undo_38 (fun v18 => ?_)
    refine vv_rcv (fun b21 t9 c9 fs9 e22 g9 k9 => ?_)
    cases List.mem_singleton.mp k9
    refine vv_callI (pc := 41) (rest := []) (by rw [e22]; rfl) (fun r8 k8 e8 => zz_callV X (m_J21_size (hlM X) _ _ _ _ e8) g9 rfl rfl q2431 q1130 q4109 q162 q1132 nh_J21 rfl (by decide) (by decide) (Nat.le_of_ble_eq_true rfl) dX1_undo_41) (fun v19 h20 => ?_)
    exact vv_iretI X rfl rfl dX1_undo_44
  · refine vv_iconst (pc := 10) X dX1_undo_10 ?_
    exact vv_iretI X rfl rfl dX1_undo_11
theorem m_X1_undo {l : Launch} (hl : l.stackTraces = false) {G : va_G} (a0 : Nat) (h : HP) : ∀ r hf, f_X1_undo a0 h = some (r, hf) → Ct l yX1_undo (ws_ yX1_undo cX1_undo 1 (some .int)) 3 88 G h [.ref a0] (jI r) hf :=
  zz_ofW hl (by decide +kernel) (lv := [(0, LR (some a0))]) (by simp [lv_args, lvL, lvV, zz_rfc, zz_rfs, zz_ci, zz_cr, zz_cj, zz_cf, zz_cd]) (by simp [lg_sl, zz_rfc, zz_ci, zz_cr, zz_cj, zz_cf, zz_cd]) (fun _ X => A_X1_undo X a0 h)
-- X9_undo RenamedWordsModel.undo()I
noncomputable def f_X9_undo (a0 : Nat) (h : HP) : Option ((Int) × HP) :=
  (wrI h (some a0) [7] 7 0).bind fun h1 =>
  (rdI h1 (some a0) [7] 6).bind fun v2 =>
  iEQ v2 0
    (some ((-1), h1))
    ((rdI h1 (some a0) [7] 6).bind fun v3 =>
    (wrI h1 (some a0) [7] 6 (v3 - 1)).bind fun h4 =>
    (rdR h4 (some a0) [7] 3).bind fun v5 =>
    (rdI h4 (some a0) [7] 6).bind fun v6 =>
    (rdR h4 (some a0) [7] 0).bind fun v7 =>
    hb (f_X9_lays v5 (576 * v6) v7 0 h4) fun _ h9 =>
    (rdI h9 (some a0) [7] 6).bind fun v10 =>
    some (v10, h9))
theorem A_X9_undo {M : hp_M} {G : va_G} {h0 : HP} (X : hp_X M G h0 "RenamedWordsModel" "undo" cX9_undo 1 (some .int) [] 1 32) (a0 : Nat) (h : HP) : vv M G h0 1 (hp_End M G h0) jI h 0 [(0, LR (some a0))] [] (f_X9_undo a0 h) := by
  unfold f_X9_undo
  refine vv_aload_n (pc := 0) X (kf := 0) (i := 0) rfl 0 rfl dX9_undo_0 ?_
  refine vv_iconst (pc := 1) X dX9_undo_1 ?_
  refine vv_putI (pc := 2) (fin := false) X (fun _ z => by cases List.mem_singleton.mp z; exact fl_X9_69_7) (fun z => nomatch z) (fun z => nomatch z) dX9_undo_2 (fun h1 => ?_)
  refine vv_aload_n (pc := 5) X (kf := 0) (i := 0) rfl 0 rfl dX9_undo_5 ?_
  refine vv_getI (pc := 6) X (fun _ z => by cases List.mem_singleton.mp z; exact fl_X9_264_7) dX9_undo_6 (fun v2 => ?_)
  refine vv_if_ne (pc := 9) (tgt := 14) X dX9_undo_9 rfl ?_ ?_
  · refine vv_aload_n (pc := 14) X (kf := 0) (i := 0) rfl 0 rfl dX9_undo_14 ?_
    refine vv_dup (pc := 15) X rfl dX9_undo_15 ?_
    refine vv_getI (pc := 16) X (fun _ z => by cases List.mem_singleton.mp z; exact fl_X9_264_7) dX9_undo_16 (fun v3 => ?_)
    refine vv_iconst (pc := 19) X dX9_undo_19 ?_
    refine vv_isub (pc := 20) X dX9_undo_20 ?_
    refine vv_putI (pc := 21) (fin := false) X (fun _ z => by cases List.mem_singleton.mp z; exact fl_X9_264_7) (fun z => nomatch z) (fun z => nomatch z) dX9_undo_21 (fun h4 => ?_)
    refine vv_aload_n (pc := 24) X (kf := 0) (i := 0) rfl 0 rfl dX9_undo_24 ?_
    refine vv_getR (pc := 25) X (fun _ z => by cases List.mem_singleton.mp z; exact fl_X9_19_7) dX9_undo_25 (fun v5 => ?_)
    refine vv_sipush (pc := 28) X (by decide) dX9_undo_28 ?_
    refine vv_aload_n (pc := 31) X (kf := 0) (i := 0) rfl 0 rfl dX9_undo_31 ?_
    refine vv_getI (pc := 32) X (fun _ z => by cases List.mem_singleton.mp z; exact fl_X9_264_7) dX9_undo_32 (fun v6 => ?_)
    refine vv_imul (pc := 35) X dX9_undo_35 ?_
    refine vv_aload_n (pc := 36) X (kf := 0) (i := 0) rfl 0 rfl dX9_undo_36 ?_
    refine vv_getR (pc := 37) X (fun _ z => by cases List.mem_singleton.mp z; exact fl_X9_9_7) dX9_undo_37 (fun v7 => ?_)
    refine vv_iconst (pc := 40) X dX9_undo_40 ?_
    refine vv_callV (pc := 41) (rest := []) (by rfl) (fun r8 k8 e8 => zz_callS X (m_X9_lays (hlM X) _ _ _ _ _ _ _ e8) q3574 q3575 q164 q3576 nh_X9 rfl (by decide) (by decide) (Nat.le_of_ble_eq_true rfl) dX9_undo_41) (fun v8 h9 => ?_)
    refine vv_aload_n (pc := 44) X (kf := 0) (i := 0) rfl 0 rfl dX9_undo_44 ?_
    refine vv_getI (pc := 45) X (fun _ z => by cases List.mem_singleton.mp z; exact fl_X9_264_7) dX9_undo_45 (fun v10 => ?_)
    exact vv_iretI X rfl rfl dX9_undo_48
  · refine vv_iconst (pc := 12) X dX9_undo_12 ?_
    exact vv_iretI X rfl rfl dX9_undo_13
theorem m_X9_undo {l : Launch} (hl : l.stackTraces = false) {G : va_G} (a0 : Nat) (h : HP) : ∀ r hf, f_X9_undo a0 h = some (r, hf) → Ct l yX9_undo (ws_ yX9_undo cX9_undo 1 (some .int)) 1 32 G h [.ref a0] (jI r) hf :=
  zz_ofW hl (by decide +kernel) (lv := [(0, LR (some a0))]) (by simp [lv_args, lvL, lvV, zz_rfc, zz_rfs, zz_ci, zz_cr, zz_cj, zz_cf, zz_cd]) (by simp [lg_sl, zz_rfc, zz_ci, zz_cr, zz_cj, zz_cf, zz_cd]) (fun _ X => A_X9_undo X a0 h)
-- X1_slot RenamedWords.slot(I)V
noncomputable def f_X1_slot (a1 : Int) (h : HP) : Option ((Nat ⊕ Unit) × HP) :=
  hb (f_X1_in (iL a1) 0 1 h) fun v1 h2 =>
  hbx (f_X1_argument v1 h2) (fun q5 h6 =>
      some (.inl q5, h6)) fun _ h4 =>
  some (.inr (), h4)
theorem A_X1_slot {M : hp_M} {G : va_G} {h0 : HP} (X : hp_X M G h0 "RenamedWords" "slot" cX1_slot 1 none [] 7 125) (a1 : Int) (h : HP) : vv M G h0 1 (hp_End M G h0) xV h 0 [(0, LI a1)] [] (f_X1_slot a1 h) := by
  unfold f_X1_slot
  refine vv_iload_n (pc := 0) X (kf := 0) (i := 0) rfl 0 rfl dX1_slot_0 ?_
  refine vv_i2l (pc := 1) X dX1_slot_1 ?_
  refine vv_lconst (pc := 2) (v := 0) X (by decide) dX1_slot_2 ?_
  refine vv_lconst (pc := 3) (v := 1) X (by decide) dX1_slot_3 ?_
  refine vv_callI (pc := 4) (rest := []) (by rfl) (fun r8 k8 e8 => zz_callS X (m_X1_in (hlM X) _ _ _ _ _ _ e8) q2984 q873 q132 q874 nh_X1 rfl (by decide) (by decide) (Nat.le_of_ble_eq_true rfl) dX1_slot_4) (fun v1 h2 => ?_)
  refine vv_xallV (pc := 7) (rest := []) (by rfl) (fun r8 k8 e8 => zz_callS X (m_X1_argument (hlM X) _ _ _ _ e8) q3090 q3091 q132 q3092 nh_X1 rfl (by decide) (by decide) (Nat.le_of_ble_eq_true rfl) dX1_slot_7) (fun v3 h4 => ?_) (fun q5 h6 => ?_)
  · exact vv_vreturn X rfl rfl dX1_slot_10
  · exact vvx_out X (by decide) rfl
theorem m_X1_slot {l : Launch} (hl : l.stackTraces = false) {G : va_G} (a1 : Int) (h : HP) : ∀ r hf, f_X1_slot a1 h = some (r, hf) → Ct l yX1_slot (ws_ yX1_slot cX1_slot 1 none) 7 125 G h [.int (iI a1)] (xV r) hf :=
  zz_ofW hl (by decide +kernel) (lv := [(0, LI a1)]) (by simp [lv_args, lvL, lvV, zz_rfc, zz_rfs, zz_ci, zz_cr, zz_cj, zz_cf, zz_cd]) (by simp [lg_sl, zz_rfc, zz_ci, zz_cr, zz_cj, zz_cf, zz_cd]) (fun _ X => A_X1_slot X a1 h)
-- X1_save RenamedWords.save(I)I
noncomputable def f_X1_save (a0 : Nat) (a1 : Int) (h : HP) : Option ((Nat ⊕ Int) × HP) :=
  hbx (f_X1_slot a1 h) (fun q3 h4 =>
      some (.inl q3, h4)) fun _ h2 =>
  (rdR h2 (some a0) [0] 3).bind fun v5 =>
  (rdR h2 (some a0) [0] 0).bind fun v6 =>
  (rcv h2 v6 [1]).bind fun b9 =>
  hb (f_X2_copy b9 h2) fun v7 h8 =>
  (astR h8 "RenamedWords$Desk" [1] v5 a1 v7).bind fun h11 =>
  (rdR h11 (some a0) [0] 0).bind fun v12 =>
  (rdR h11 v12 [1] 0).bind fun v13 =>
  (rdI h11 v13 [3] 3).bind fun v14 =>
  some (.inr v14, h11)
theorem A_X1_save {M : hp_M} {G : va_G} {h0 : HP} (X : hp_X M G h0 "RenamedWords" "save" cX1_save 2 (some .int) [] 8 188) (a0 : Nat) (a1 : Int) (h : HP) : vv M G h0 2 (hp_End M G h0) xI h 0 [(0, LR (some a0)), (1, LI a1)] [] (f_X1_save a0 a1 h) := by
  unfold f_X1_save
  refine vv_iload_n (pc := 0) X (kf := 1) (i := 1) rfl 1 rfl dX1_save_0 ?_
  refine vv_xallV (pc := 1) (rest := []) (by rfl) (fun r8 k8 e8 => zz_callS X (m_X1_slot (hlM X) _ _ _ _ e8) q3428 q3429 q132 q3430 nh_X1 rfl (by decide) (by decide) (Nat.le_of_ble_eq_true rfl) dX1_save_1) (fun v1 h2 => ?_) (fun q3 h4 => ?_)
  · refine vv_aload_n (pc := 4) X (kf := 0) (i := 0) rfl 0 rfl dX1_save_4 ?_
    refine vv_getR (pc := 5) X (fun _ z => by cases List.mem_singleton.mp z; exact fl_X1_55_0) dX1_save_5 (fun v5 => ?_)
    refine vv_iload_n (pc := 8) X (kf := 1) (i := 1) rfl 1 rfl dX1_save_8 ?_
    refine vv_aload_n (pc := 9) X (kf := 0) (i := 0) rfl 0 rfl dX1_save_9 ?_
    refine vv_getR (pc := 10) X (fun _ z => by cases List.mem_singleton.mp z; exact fl_X1_35_0) dX1_save_10 (fun v6 => ?_)
    refine vv_rcv (fun b9 t9 c9 fs9 e10 g9 k9 => ?_)
    cases List.mem_singleton.mp k9
    refine vv_callR (pc := 13) (rest := [LI a1, LR v5]) (by rw [e10]; rfl) (fun r8 k8 e8 => zz_callV X (m_X2_copy (hlM X) _ _ _ _ e8) g9 rfl rfl q2127 q2128 q2129 q133 q2130 nh_X2 rfl (by decide) (by decide) (Nat.le_of_ble_eq_true rfl) dX1_save_13) (fun v7 h8 => ?_)
    refine vv_aastore (pc := 16) X (fun _ z => by cases List.mem_singleton.mp z; exact ca_RenamedWords_Desk_1) dX1_save_16 (fun h11 => ?_)
    refine vv_aload_n (pc := 17) X (kf := 0) (i := 0) rfl 0 rfl dX1_save_17 ?_
    refine vv_getR (pc := 18) X (fun _ z => by cases List.mem_singleton.mp z; exact fl_X1_35_0) dX1_save_18 (fun v12 => ?_)
    refine vv_getR (pc := 21) X (fun _ z => by cases List.mem_singleton.mp z; exact fl_X1_79_1) dX1_save_21 (fun v13 => ?_)
    refine vv_getI (pc := 24) X (fun _ z => by cases List.mem_singleton.mp z; exact fl_X1_83_3) dX1_save_24 (fun v14 => ?_)
    exact vv_iretI X rfl rfl dX1_save_27
  · exact vvx_out X (by decide) rfl
theorem m_X1_save {l : Launch} (hl : l.stackTraces = false) {G : va_G} (a0 : Nat) (a1 : Int) (h : HP) : ∀ r hf, f_X1_save a0 a1 h = some (r, hf) → Ct l yX1_save (ws_ yX1_save cX1_save 2 (some .int)) 8 188 G h [.ref a0, .int (iI a1)] (xI r) hf :=
  zz_ofW hl (by decide +kernel) (lv := [(0, LR (some a0)), (1, LI a1)]) (by simp [lv_args, lvL, lvV, zz_rfc, zz_rfs, zz_ci, zz_cr, zz_cj, zz_cf, zz_cd]) (by simp [lg_sl, zz_rfc, zz_ci, zz_cr, zz_cj, zz_cf, zz_cd]) (fun _ X => A_X1_save X a0 a1 h)
-- X0_save RenamedWordsLaw.save(LRenamedWords;I[J)I
noncomputable def b_X0_save_12 (s0 : Option Nat) (h : HP) : Option ((Int) × HP) :=
  some (1, h)
theorem B_X0_save_12 {M : hp_M} {G : va_G} {h0 : HP} (X : hp_X M G h0 "RenamedWordsLaw" "save" cX0_save 4 (some .int) (tableOf [(0, 9, 12, 13)]) 9 217) (s0 : Option Nat) (h : HP) : vv M G h0 4 (hp_End M G h0) jI h 12 [] [LR s0] (b_X0_save_12 s0 h) := by
  unfold b_X0_save_12
  refine vv_astore_n (pc := 12) (lv' := [(3, LR s0)]) X (kf := 3) (i := 3) rfl (by decide) rfl dX0_save_12 ?_
  refine vv_iconst (pc := 13) X dX0_save_13 ?_
  exact vv_iretI X rfl rfl dX0_save_14
noncomputable def f_X0_save (a1 : Option Nat) (a2 : Int) (a3 : Option Nat) (h : HP) : Option ((Int) × HP) :=
  (rcv h a1 [0]).bind fun b3 =>
  hbx (f_X1_save b3 a2 h) (fun q5 h6 =>
      (clsOf h6 q5).bind fun c7 =>
      if c7 = 36 then
        b_X0_save_12 (some q5) h6
      else
        none) fun v1 h2 =>
  (astJ h2 a3 0 (iL v1)).bind fun h8 =>
  some (0, h8)
theorem A_X0_save {M : hp_M} {G : va_G} {h0 : HP} (X : hp_X M G h0 "RenamedWordsLaw" "save" cX0_save 4 (some .int) (tableOf [(0, 9, 12, 13)]) 9 217) (a1 : Option Nat) (a2 : Int) (a3 : Option Nat) (h : HP) : vv M G h0 4 (hp_End M G h0) jI h 0 [(0, LR a1), (1, LI a2), (2, LR a3)] [] (f_X0_save a1 a2 a3 h) := by
  unfold f_X0_save
  refine vv_aload_n (pc := 0) X (kf := 2) (i := 2) rfl 2 rfl dX0_save_0 ?_
  refine vv_iconst (pc := 1) X dX0_save_1 ?_
  refine vv_aload_n (pc := 2) X (kf := 0) (i := 0) rfl 0 rfl dX0_save_2 ?_
  refine vv_iload_n (pc := 3) X (kf := 1) (i := 1) rfl 1 rfl dX0_save_3 ?_
  refine vv_rcv (fun b3 t9 c9 fs9 e4 g9 k9 => ?_)
  cases List.mem_singleton.mp k9
  refine vv_xallI (pc := 4) (rest := [LI 0, LR a3]) (by rw [e4]; rfl) (fun r8 k8 e8 => zz_callV X (m_X1_save (hlM X) _ _ _ _ _ e8) g9 rfl rfl q3424 q3425 q3426 q132 q3427 nh_X1 rfl (by decide) (by decide) (Nat.le_of_ble_eq_true rfl) dX0_save_4) (fun v1 h2 => ?_) (fun q5 h6 => ?_)
  · refine vv_i2l (pc := 7) X dX0_save_7 ?_
    refine vv_lastore (pc := 8) X dX0_save_8 (fun h8 => ?_)
    refine vv_goto (pc := 9) (tgt := 15) X dX0_save_9 rfl ?_
    refine vv_iconst (pc := 15) X dX0_save_15 ?_
    exact vv_iretI X rfl rfl dX0_save_16
  · refine vvx_cls (fun _ c7 _ g9 => ?_)
    refine vvx_if (fun e9 => ?_) (fun _ => ?_)
    · subst e9
      refine vvx_catch X g9 rfl [] ⟨0, 9, 12, 13⟩ [] rfl (fun z hz => nomatch hz) rfl (by decide) q3013 q275 ?_
      exact vv_sub [] (by rfl) (B_X0_save_12 X _ _)
    · exact vvx_none
theorem m_X0_save {l : Launch} (hl : l.stackTraces = false) {G : va_G} (a1 : Option Nat) (a2 : Int) (a3 : Option Nat) (h : HP) : ∀ r hf, f_X0_save a1 a2 a3 h = some (r, hf) → Ct l yX0_save (wsW_ yX0_save cX0_save 4 (some .int) [(0, 9, 12, 13)]) 9 217 G h [va_rf a1, .int (iI a2), va_rf a3] (jI r) hf :=
  zz_ofWH hl (by decide +kernel) (lv := [(0, LR a1), (1, LI a2), (2, LR a3)]) (by simp [lv_args, lvL, lvV, zz_rfc, zz_rfs, zz_ci, zz_cr, zz_cj, zz_cf, zz_cd]) (by simp [lg_sl, zz_rfc, zz_ci, zz_cr, zz_cj, zz_cf, zz_cd]) (fun _ X => A_X0_save X a1 a2 a3 h)
-- X9_noSlot RenamedWordsModel.noSlot(I)Z
noncomputable def b_X9_noSlot_15 (s0 : Int) (s1 : Option Nat) (h : HP) : Option ((Int) × HP) :=
  (rcv h s1 [7]).bind fun b5 =>
  hb (f_X9_fails b5 s0 1 h) fun v3 h4 =>
  rtZ v3 (some (v3, h4))
theorem B_X9_noSlot_15 {M : hp_M} {G : va_G} {h0 : HP} (X : hp_X M G h0 "RenamedWordsModel" "noSlot" cX9_noSlot 2 (some .boolean) [] 1 30) (s0 : Int) (s1 : Option Nat) (h : HP) : vv M G h0 2 (hp_End M G h0) jI h 15 [] [LI s0, LR s1] (b_X9_noSlot_15 s0 s1 h) := by
  unfold b_X9_noSlot_15
  refine vv_iconst (pc := 15) X dX9_noSlot_15 ?_
  refine vv_rcv (fun b5 t9 c9 fs9 e6 g9 k9 => ?_)
  cases List.mem_singleton.mp k9
  refine vv_callI (pc := 16) (rest := []) (by rw [e6]; rfl) (fun r8 k8 e8 => zz_callV X (m_X9_fails (hlM X) _ _ _ _ _ _ e8) g9 rfl rfl q3841 q3843 qs109 q164 q3844 nh_X9 rfl (by decide) (by decide) (Nat.le_of_ble_eq_true rfl) dX9_noSlot_16) (fun v3 h4 => ?_)
  exact vv_iretZ X rfl rfl dX9_noSlot_19
noncomputable def f_X9_noSlot (a0 : Nat) (a1 : Int) (h : HP) : Option ((Int) × HP) :=
  hb (f_X9_in a1 0 1 h) fun v1 h2 =>
  iEQ v1 0
    (b_X9_noSlot_15 1 (some a0) h2)
    (b_X9_noSlot_15 0 (some a0) h2)
theorem A_X9_noSlot {M : hp_M} {G : va_G} {h0 : HP} (X : hp_X M G h0 "RenamedWordsModel" "noSlot" cX9_noSlot 2 (some .boolean) [] 1 30) (a0 : Nat) (a1 : Int) (h : HP) : vv M G h0 2 (hp_End M G h0) jI h 0 [(0, LR (some a0)), (1, LI a1)] [] (f_X9_noSlot a0 a1 h) := by
  unfold f_X9_noSlot
  refine vv_aload_n (pc := 0) X (kf := 0) (i := 0) rfl 0 rfl dX9_noSlot_0 ?_
  refine vv_iload_n (pc := 1) X (kf := 1) (i := 1) rfl 1 rfl dX9_noSlot_1 ?_
  refine vv_iconst (pc := 2) X dX9_noSlot_2 ?_
  refine vv_iconst (pc := 3) X dX9_noSlot_3 ?_
  refine vv_callI (pc := 4) (rest := [LR (some a0)]) (by rfl) (fun r8 k8 e8 => zz_callS X (m_X9_in (hlM X) _ _ _ _ _ _ e8) q3593 q3594 q164 q3595 nh_X9 rfl (by decide) (by decide) (Nat.le_of_ble_eq_true rfl) dX9_noSlot_4) (fun v1 h2 => ?_)
  refine vv_if_ne (pc := 7) (tgt := 14) X dX9_noSlot_7 rfl ?_ ?_
  · refine vv_iconst (pc := 14) X dX9_noSlot_14 ?_
    exact vv_sub [] (by rfl) (B_X9_noSlot_15 X _ _ _)
  · refine vv_iconst (pc := 10) X dX9_noSlot_10 ?_
    refine vv_goto (pc := 11) (tgt := 15) X dX9_noSlot_11 rfl ?_
    exact vv_sub [] (by rfl) (B_X9_noSlot_15 X _ _ _)
theorem m_X9_noSlot {l : Launch} (hl : l.stackTraces = false) {G : va_G} (a0 : Nat) (a1 : Int) (h : HP) : ∀ r hf, f_X9_noSlot a0 a1 h = some (r, hf) → Ct l yX9_noSlot (ws_ yX9_noSlot cX9_noSlot 2 (some .boolean)) 1 30 G h [.ref a0, .int (iI a1)] (jI r) hf :=
  zz_ofW hl (by decide +kernel) (lv := [(0, LR (some a0)), (1, LI a1)]) (by simp [lv_args, lvL, lvV, zz_rfc, zz_rfs, zz_ci, zz_cr, zz_cj, zz_cf, zz_cd]) (by simp [lg_sl, zz_rfc, zz_ci, zz_cr, zz_cj, zz_cf, zz_cd]) (fun _ X => A_X9_noSlot X a0 a1 h)
-- X9_save RenamedWordsModel.save(I)I
noncomputable def f_X9_save (a0 : Nat) (a1 : Int) (h : HP) : Option ((Int) × HP) :=
  (wrI h (some a0) [7] 7 0).bind fun h1 =>
  (rcv h1 (some a0) [7]).bind fun b4 =>
  hb (f_X9_noSlot b4 a1 h1) fun v2 h3 =>
  iEQ v2 0
    ((rdR h3 (some a0) [7] 0).bind fun v6 =>
    (rdR h3 (some a0) [7] 4).bind fun v7 =>
    hb (f_X9_lays v6 0 v7 (576 * a1) h3) fun _ h9 =>
    (rdR h9 (some a0) [7] 5).bind fun v10 =>
    (astZ h9 v10 a1 1).bind fun h11 =>
    (rdR h11 (some a0) [7] 0).bind fun v12 =>
    (aldI h11 .int v12 1).bind fun v13 =>
    some (v13, h11))
    (some (0, h3))
theorem A_X9_save {M : hp_M} {G : va_G} {h0 : HP} (X : hp_X M G h0 "RenamedWordsModel" "save" cX9_save 2 (some .int) [] 2 59) (a0 : Nat) (a1 : Int) (h : HP) : vv M G h0 2 (hp_End M G h0) jI h 0 [(0, LR (some a0)), (1, LI a1)] [] (f_X9_save a0 a1 h) := by
  unfold f_X9_save
  refine vv_aload_n (pc := 0) X (kf := 0) (i := 0) rfl 0 rfl dX9_save_0 ?_
  refine vv_iconst (pc := 1) X dX9_save_1 ?_
  refine vv_putI (pc := 2) (fin := false) X (fun _ z => by cases List.mem_singleton.mp z; exact fl_X9_69_7) (fun z => nomatch z) (fun z => nomatch z) dX9_save_2 (fun h1 => ?_)
  refine vv_aload_n (pc := 5) X (kf := 0) (i := 0) rfl 0 rfl dX9_save_5 ?_
  refine vv_iload_n (pc := 6) X (kf := 1) (i := 1) rfl 1 rfl dX9_save_6 ?_
  refine vv_rcv (fun b4 t9 c9 fs9 e5 g9 k9 => ?_)
  cases List.mem_singleton.mp k9
  refine vv_callI (pc := 7) (rest := []) (by rw [e5]; rfl) (fun r8 k8 e8 => zz_callV X (m_X9_noSlot (hlM X) _ _ _ _ _ e8) g9 rfl rfl q4079 q4081 qs130 q164 q4082 nh_X9 rfl (by decide) (by decide) (Nat.le_of_ble_eq_true rfl) dX9_save_7) (fun v2 h3 => ?_)
  refine vv_if_eq (pc := 10) (tgt := 15) X dX9_save_10 rfl ?_ ?_
  · refine vv_aload_n (pc := 15) X (kf := 0) (i := 0) rfl 0 rfl dX9_save_15 ?_
    refine vv_getR (pc := 16) X (fun _ z => by cases List.mem_singleton.mp z; exact fl_X9_9_7) dX9_save_16 (fun v6 => ?_)
    refine vv_iconst (pc := 19) X dX9_save_19 ?_
    refine vv_aload_n (pc := 20) X (kf := 0) (i := 0) rfl 0 rfl dX9_save_20 ?_
    refine vv_getR (pc := 21) X (fun _ z => by cases List.mem_singleton.mp z; exact fl_X9_22_7) dX9_save_21 (fun v7 => ?_)
    refine vv_sipush (pc := 24) X (by decide) dX9_save_24 ?_
    refine vv_iload_n (pc := 27) X (kf := 1) (i := 1) rfl 1 rfl dX9_save_27 ?_
    refine vv_imul (pc := 28) X dX9_save_28 ?_
    refine vv_callV (pc := 29) (rest := []) (by rfl) (fun r8 k8 e8 => zz_callS X (m_X9_lays (hlM X) _ _ _ _ _ _ _ e8) q3574 q3575 q164 q3576 nh_X9 rfl (by decide) (by decide) (Nat.le_of_ble_eq_true rfl) dX9_save_29) (fun v8 h9 => ?_)
    refine vv_aload_n (pc := 32) X (kf := 0) (i := 0) rfl 0 rfl dX9_save_32 ?_
    refine vv_getR (pc := 33) X (fun _ z => by cases List.mem_singleton.mp z; exact fl_X9_25_7) dX9_save_33 (fun v10 => ?_)
    refine vv_iload_n (pc := 36) X (kf := 1) (i := 1) rfl 1 rfl dX9_save_36 ?_
    refine vv_iconst (pc := 37) X dX9_save_37 ?_
    refine vv_zastore (pc := 38) X dX9_save_38 (fun h11 => ?_)
    refine vv_aload_n (pc := 39) X (kf := 0) (i := 0) rfl 0 rfl dX9_save_39 ?_
    refine vv_getR (pc := 40) X (fun _ z => by cases List.mem_singleton.mp z; exact fl_X9_9_7) dX9_save_40 (fun v12 => ?_)
    refine vv_iconst (pc := 43) X dX9_save_43 ?_
    refine vv_iaload (pc := 44) X dX9_save_44 (fun v13 => ?_)
    exact vv_iretI X rfl rfl dX9_save_45
  · refine vv_iconst (pc := 13) X dX9_save_13 ?_
    exact vv_iretI X rfl rfl dX9_save_14
theorem m_X9_save {l : Launch} (hl : l.stackTraces = false) {G : va_G} (a0 : Nat) (a1 : Int) (h : HP) : ∀ r hf, f_X9_save a0 a1 h = some (r, hf) → Ct l yX9_save (ws_ yX9_save cX9_save 2 (some .int)) 2 59 G h [.ref a0, .int (iI a1)] (jI r) hf :=
  zz_ofW hl (by decide +kernel) (lv := [(0, LR (some a0)), (1, LI a1)]) (by simp [lv_args, lvL, lvV, zz_rfc, zz_rfs, zz_ci, zz_cr, zz_cj, zz_cf, zz_cd]) (by simp [lg_sl, zz_rfc, zz_ci, zz_cr, zz_cj, zz_cf, zz_cd]) (fun _ X => A_X9_save X a0 a1 h)
-- X1_restore RenamedWords.restore(I)I
noncomputable def b_X1_restore_18 (x0 : Option Nat) (x1 : Int) (s0 : Int) (h : HP) : Option ((Nat ⊕ Int) × HP) :=
  hbx (f_X1_element s0 h) (fun q9 h10 =>
      some (.inl q9, h10)) fun _ h8 =>
  (rdR h8 x0 [0] 3).bind fun v11 =>
  (aldR h8 "RenamedWords$Desk" v11 x1).bind fun v12 =>
  (rcv h8 v12 [1]).bind fun b15 =>
  hb (f_X2_copy b15 h8) fun v13 h14 =>
  (wrR h14 x0 [0] 0 v13).bind fun h17 =>
  (rdR h17 x0 [0] 1).bind fun v18 =>
  (rcv h17 v18 [28]).bind fun b21 =>
  hb (f_J21_clear b21 h17) fun _ h20 =>
  (rdR h20 x0 [0] 0).bind fun v23 =>
  (rdR h20 v23 [1] 0).bind fun v24 =>
  (rdI h20 v24 [3] 3).bind fun v25 =>
  some (.inr v25, h20)
theorem B_X1_restore_18 {M : hp_M} {G : va_G} {h0 : HP} (X : hp_X M G h0 "RenamedWords" "restore" cX1_restore 2 (some .int) [] 8 188) (x0 : Option Nat) (x1 : Int) (s0 : Int) (h : HP) : vv M G h0 2 (hp_End M G h0) xI h 18 [(0, LR x0), (1, LI x1)] [LI s0] (b_X1_restore_18 x0 x1 s0 h) := by
  unfold b_X1_restore_18
  refine vv_xallV (pc := 18) (rest := []) (by rfl) (fun r8 k8 e8 => zz_callS X (m_X1_element (hlM X) _ _ _ _ e8) q3247 q3248 q132 q3249 nh_X1 rfl (by decide) (by decide) (Nat.le_of_ble_eq_true rfl) dX1_restore_18) (fun v7 h8 => ?_) (fun q9 h10 => ?_)
  · refine vv_aload_n (pc := 21) X (kf := 0) (i := 0) rfl 0 rfl dX1_restore_21 ?_
    refine vv_aload_n (pc := 22) X (kf := 0) (i := 0) rfl 0 rfl dX1_restore_22 ?_
    refine vv_getR (pc := 23) X (fun _ z => by cases List.mem_singleton.mp z; exact fl_X1_55_0) dX1_restore_23 (fun v11 => ?_)
    refine vv_iload_n (pc := 26) X (kf := 1) (i := 1) rfl 1 rfl dX1_restore_26 ?_
    refine vv_aaload (pc := 27) X dX1_restore_27 (fun v12 => ?_)
    refine vv_rcv (fun b15 t9 c9 fs9 e16 g9 k9 => ?_)
    cases List.mem_singleton.mp k9
    refine vv_callR (pc := 28) (rest := [LR x0]) (by rw [e16]; rfl) (fun r8 k8 e8 => zz_callV X (m_X2_copy (hlM X) _ _ _ _ e8) g9 rfl rfl q2127 q2128 q2129 q133 q2130 nh_X2 rfl (by decide) (by decide) (Nat.le_of_ble_eq_true rfl) dX1_restore_28) (fun v13 h14 => ?_)
    refine vv_putR (pc := 31) (ty9 := (.object "RenamedWords$Desk")) (fin := false) X (fun _ z => by cases List.mem_singleton.mp z; exact fl_X1_35_0) (fun z => nomatch z) (fun z => nomatch z) (by decide +kernel) rfl dX1_restore_31 (fun h17 => ?_)
    refine vv_aload_n (pc := 34) X (kf := 0) (i := 0) rfl 0 rfl dX1_restore_34 ?_
    refine vv_getR (pc := 35) X (fun _ z => by cases List.mem_singleton.mp z; exact fl_X1_42_0) dX1_restore_35 (fun v18 => ?_)
    refine vv_rcv (fun b21 t9 c9 fs9 e22 g9 k9 => ?_)
    cases List.mem_singleton.mp k9
    refine vv_callV (pc := 38) (rest := []) (by rw [e22]; rfl) (fun r8 k8 e8 => zz_callV X (m_J21_clear (hlM X) _ _ _ _ e8) g9 rfl rfl q1825 q1826 q1827 q162 q1828 nh_J21 rfl (by decide) (by decide) (Nat.le_of_ble_eq_true rfl) dX1_restore_38) (fun v19 h20 => ?_)
    refine vv_aload_n (pc := 41) X (kf := 0) (i := 0) rfl 0 rfl dX1_restore_41 ?_
    refine vv_getR (pc := 42) X (fun _ z => by cases List.mem_singleton.mp z; exact fl_X1_35_0) dX1_restore_42 (fun v23 => ?_)
    refine vv_getR (pc := 45) X (fun _ z => by cases List.mem_singleton.mp z; exact fl_X1_79_1) dX1_restore_45 (fun v24 => ?_)
    refine vv_getI (pc := 48) X (fun _ z => by cases List.mem_singleton.mp z; exact fl_X1_83_3) dX1_restore_48 (fun v25 => ?_)
    exact vv_iretI X rfl rfl dX1_restore_51
  · exact vvx_out X (by decide) rfl
noncomputable def f_X1_restore (a0 : Nat) (a1 : Int) (h : HP) : Option ((Nat ⊕ Int) × HP) :=
  hbx (f_X1_slot a1 h) (fun q3 h4 =>
      some (.inl q3, h4)) fun _ h2 =>
  (rdR h2 (some a0) [0] 3).bind fun v5 =>
  (aldR h2 "RenamedWords$Desk" v5 a1).bind fun v6 =>
  rNU v6
    (b_X1_restore_18 (some a0) a1 0 h2)
    (b_X1_restore_18 (some a0) a1 1 h2)
theorem A_X1_restore {M : hp_M} {G : va_G} {h0 : HP} (X : hp_X M G h0 "RenamedWords" "restore" cX1_restore 2 (some .int) [] 8 188) (a0 : Nat) (a1 : Int) (h : HP) : vv M G h0 2 (hp_End M G h0) xI h 0 [(0, LR (some a0)), (1, LI a1)] [] (f_X1_restore a0 a1 h) := by
  unfold f_X1_restore
  refine vv_iload_n (pc := 0) X (kf := 1) (i := 1) rfl 1 rfl dX1_restore_0 ?_
  refine vv_xallV (pc := 1) (rest := []) (by rfl) (fun r8 k8 e8 => zz_callS X (m_X1_slot (hlM X) _ _ _ _ e8) q3428 q3429 q132 q3430 nh_X1 rfl (by decide) (by decide) (Nat.le_of_ble_eq_true rfl) dX1_restore_1) (fun v1 h2 => ?_) (fun q3 h4 => ?_)
  · refine vv_aload_n (pc := 4) X (kf := 0) (i := 0) rfl 0 rfl dX1_restore_4 ?_
    refine vv_getR (pc := 5) X (fun _ z => by cases List.mem_singleton.mp z; exact fl_X1_55_0) dX1_restore_5 (fun v5 => ?_)
    refine vv_iload_n (pc := 8) X (kf := 1) (i := 1) rfl 1 rfl dX1_restore_8 ?_
    refine vv_aaload (pc := 9) X dX1_restore_9 (fun v6 => ?_)
    refine vv_ifnull (pc := 10) (tgt := 17) X dX1_restore_10 rfl ?_ ?_
    · refine vv_iconst (pc := 17) X dX1_restore_17 ?_
      exact B_X1_restore_18 X _ _ _ _
    · refine vv_iconst (pc := 13) X dX1_restore_13 ?_
      refine vv_goto (pc := 14) (tgt := 18) X dX1_restore_14 rfl ?_
      exact B_X1_restore_18 X _ _ _ _
  · exact vvx_out X (by decide) rfl
theorem m_X1_restore {l : Launch} (hl : l.stackTraces = false) {G : va_G} (a0 : Nat) (a1 : Int) (h : HP) : ∀ r hf, f_X1_restore a0 a1 h = some (r, hf) → Ct l yX1_restore (ws_ yX1_restore cX1_restore 2 (some .int)) 8 188 G h [.ref a0, .int (iI a1)] (xI r) hf :=
  zz_ofW hl (by decide +kernel) (lv := [(0, LR (some a0)), (1, LI a1)]) (by simp [lv_args, lvL, lvV, zz_rfc, zz_rfs, zz_ci, zz_cr, zz_cj, zz_cf, zz_cd]) (by simp [lg_sl, zz_rfc, zz_ci, zz_cr, zz_cj, zz_cf, zz_cd]) (fun _ X => A_X1_restore X a0 a1 h)
-- X0_restore RenamedWordsLaw.restore(LRenamedWords;I[J)I
noncomputable def b_X0_restore_15 (s0 : Option Nat) (h : HP) : Option ((Int) × HP) :=
  some (2, h)
theorem B_X0_restore_15 {M : hp_M} {G : va_G} {h0 : HP} (X : hp_X M G h0 "RenamedWordsLaw" "restore" cX0_restore 4 (some .int) (tableOf [(0, 9, 12, 13), (0, 9, 15, 59)]) 9 217) (s0 : Option Nat) (h : HP) : vv M G h0 4 (hp_End M G h0) jI h 15 [] [LR s0] (b_X0_restore_15 s0 h) := by
  unfold b_X0_restore_15
  refine vv_astore_n (pc := 15) (lv' := [(3, LR s0)]) X (kf := 3) (i := 3) rfl (by decide) rfl dX0_restore_15 ?_
  refine vv_iconst (pc := 16) X dX0_restore_16 ?_
  exact vv_iretI X rfl rfl dX0_restore_17
noncomputable def b_X0_restore_12 (s0 : Option Nat) (h : HP) : Option ((Int) × HP) :=
  some (1, h)
theorem B_X0_restore_12 {M : hp_M} {G : va_G} {h0 : HP} (X : hp_X M G h0 "RenamedWordsLaw" "restore" cX0_restore 4 (some .int) (tableOf [(0, 9, 12, 13), (0, 9, 15, 59)]) 9 217) (s0 : Option Nat) (h : HP) : vv M G h0 4 (hp_End M G h0) jI h 12 [] [LR s0] (b_X0_restore_12 s0 h) := by
  unfold b_X0_restore_12
  refine vv_astore_n (pc := 12) (lv' := [(3, LR s0)]) X (kf := 3) (i := 3) rfl (by decide) rfl dX0_restore_12 ?_
  refine vv_iconst (pc := 13) X dX0_restore_13 ?_
  exact vv_iretI X rfl rfl dX0_restore_14
noncomputable def f_X0_restore (a1 : Option Nat) (a2 : Int) (a3 : Option Nat) (h : HP) : Option ((Int) × HP) :=
  (rcv h a1 [0]).bind fun b3 =>
  hbx (f_X1_restore b3 a2 h) (fun q5 h6 =>
      (clsOf h6 q5).bind fun c7 =>
      if c7 = 36 then
        b_X0_restore_12 (some q5) h6
      else
        if c7 = 34 then
          b_X0_restore_15 (some q5) h6
        else
          none) fun v1 h2 =>
  (astJ h2 a3 0 (iL v1)).bind fun h8 =>
  some (0, h8)
theorem A_X0_restore {M : hp_M} {G : va_G} {h0 : HP} (X : hp_X M G h0 "RenamedWordsLaw" "restore" cX0_restore 4 (some .int) (tableOf [(0, 9, 12, 13), (0, 9, 15, 59)]) 9 217) (a1 : Option Nat) (a2 : Int) (a3 : Option Nat) (h : HP) : vv M G h0 4 (hp_End M G h0) jI h 0 [(0, LR a1), (1, LI a2), (2, LR a3)] [] (f_X0_restore a1 a2 a3 h) := by
  unfold f_X0_restore
  refine vv_aload_n (pc := 0) X (kf := 2) (i := 2) rfl 2 rfl dX0_restore_0 ?_
  refine vv_iconst (pc := 1) X dX0_restore_1 ?_
  refine vv_aload_n (pc := 2) X (kf := 0) (i := 0) rfl 0 rfl dX0_restore_2 ?_
  refine vv_iload_n (pc := 3) X (kf := 1) (i := 1) rfl 1 rfl dX0_restore_3 ?_
  refine vv_rcv (fun b3 t9 c9 fs9 e4 g9 k9 => ?_)
  cases List.mem_singleton.mp k9
  refine vv_xallI (pc := 4) (rest := [LI 0, LR a3]) (by rw [e4]; rfl) (fun r8 k8 e8 => zz_callV X (m_X1_restore (hlM X) _ _ _ _ _ e8) g9 rfl rfl q3434 q3435 q3436 q132 q3437 nh_X1 rfl (by decide) (by decide) (Nat.le_of_ble_eq_true rfl) dX0_restore_4) (fun v1 h2 => ?_) (fun q5 h6 => ?_)
  · refine vv_i2l (pc := 7) X dX0_restore_7 ?_
    refine vv_lastore (pc := 8) X dX0_restore_8 (fun h8 => ?_)
    refine vv_goto (pc := 9) (tgt := 18) X dX0_restore_9 rfl ?_
    refine vv_iconst (pc := 18) X dX0_restore_18 ?_
    exact vv_iretI X rfl rfl dX0_restore_19
  · refine vvx_cls (fun _ c7 _ g9 => ?_)
    refine vvx_if (fun e9 => ?_) (fun _ => ?_)
    · subst e9
      refine vvx_catch X g9 rfl [] ⟨0, 9, 12, 13⟩ [⟨0, 9, 15, 59⟩] rfl (fun z hz => nomatch hz) rfl (by decide) q3013 q275 ?_
      exact vv_sub [] (by rfl) (B_X0_restore_12 X _ _)
    · refine vvx_if (fun e9 => ?_) (fun _ => ?_)
      · subst e9
        refine vvx_catch X g9 rfl [⟨0, 9, 12, 13⟩] ⟨0, 9, 15, 59⟩ [] rfl (fun z hz => by rcases List.mem_cons.mp hz with rfl | hz; exact Or.inr ⟨by decide, _, q3013, List.mem_of_getElem? (i := 2) rfl⟩; exact nomatch hz) rfl (by decide) q3238 q2218 ?_
        exact vv_sub [] (by rfl) (B_X0_restore_15 X _ _)
      · exact vvx_none
theorem m_X0_restore {l : Launch} (hl : l.stackTraces = false) {G : va_G} (a1 : Option Nat) (a2 : Int) (a3 : Option Nat) (h : HP) : ∀ r hf, f_X0_restore a1 a2 a3 h = some (r, hf) → Ct l yX0_restore (wsW_ yX0_restore cX0_restore 4 (some .int) [(0, 9, 12, 13), (0, 9, 15, 59)]) 9 217 G h [va_rf a1, .int (iI a2), va_rf a3] (jI r) hf :=
  zz_ofWH hl (by decide +kernel) (lv := [(0, LR a1), (1, LI a2), (2, LR a3)]) (by simp [lv_args, lvL, lvV, zz_rfc, zz_rfs, zz_ci, zz_cr, zz_cj, zz_cf, zz_cd]) (by simp [lg_sl, zz_rfc, zz_ci, zz_cr, zz_cj, zz_cf, zz_cd]) (fun _ X => A_X0_restore X a1 a2 a3 h)
-- X9_restore RenamedWordsModel.restore(I)I
noncomputable def b_X9_restore_35 (h : HP) : Option ((Int) × HP) :=
  some (0, h)
theorem B_X9_restore_35 {M : hp_M} {G : va_G} {h0 : HP} (X : hp_X M G h0 "RenamedWordsModel" "restore" cX9_restore 2 (some .int) [] 2 59) (h : HP) : vv M G h0 2 (hp_End M G h0) jI h 35 [] [] (b_X9_restore_35 h) := by
  unfold b_X9_restore_35
  refine vv_iconst (pc := 35) X dX9_restore_35 ?_
  exact vv_iretI X rfl rfl dX9_restore_36
noncomputable def b_X9_restore_28 (x0 : Option Nat) (x1 : Int) (s0 : Int) (s1 : Option Nat) (h : HP) : Option ((Int) × HP) :=
  (rcv h s1 [7]).bind fun b10 =>
  hb (f_X9_fails b10 s0 2 h) fun v8 h9 =>
  iEQ v8 0
    ((rdR h9 x0 [7] 4).bind fun v12 =>
    (rdR h9 x0 [7] 0).bind fun v13 =>
    hb (f_X9_lays v12 (576 * x1) v13 0 h9) fun _ h15 =>
    (wrI h15 x0 [7] 6 0).bind fun h16 =>
    (rdR h16 x0 [7] 0).bind fun v17 =>
    (aldI h16 .int v17 1).bind fun v18 =>
    some (v18, h16))
    (b_X9_restore_35 h9)
theorem B_X9_restore_28 {M : hp_M} {G : va_G} {h0 : HP} (X : hp_X M G h0 "RenamedWordsModel" "restore" cX9_restore 2 (some .int) [] 2 59) (x0 : Option Nat) (x1 : Int) (s0 : Int) (s1 : Option Nat) (h : HP) : vv M G h0 2 (hp_End M G h0) jI h 28 [(0, LR x0), (1, LI x1)] [LI s0, LR s1] (b_X9_restore_28 x0 x1 s0 s1 h) := by
  unfold b_X9_restore_28
  refine vv_iconst (pc := 28) X dX9_restore_28 ?_
  refine vv_rcv (fun b10 t9 c9 fs9 e11 g9 k9 => ?_)
  cases List.mem_singleton.mp k9
  refine vv_callI (pc := 29) (rest := []) (by rw [e11]; rfl) (fun r8 k8 e8 => zz_callV X (m_X9_fails (hlM X) _ _ _ _ _ _ e8) g9 rfl rfl q3841 q3843 qs109 q164 q3844 nh_X9 rfl (by decide) (by decide) (Nat.le_of_ble_eq_true rfl) dX9_restore_29) (fun v8 h9 => ?_)
  refine vv_if_eq (pc := 32) (tgt := 37) X dX9_restore_32 rfl ?_ ?_
  · refine vv_aload_n (pc := 37) X (kf := 0) (i := 0) rfl 0 rfl dX9_restore_37 ?_
    refine vv_getR (pc := 38) X (fun _ z => by cases List.mem_singleton.mp z; exact fl_X9_22_7) dX9_restore_38 (fun v12 => ?_)
    refine vv_sipush (pc := 41) X (by decide) dX9_restore_41 ?_
    refine vv_iload_n (pc := 44) X (kf := 1) (i := 1) rfl 1 rfl dX9_restore_44 ?_
    refine vv_imul (pc := 45) X dX9_restore_45 ?_
    refine vv_aload_n (pc := 46) X (kf := 0) (i := 0) rfl 0 rfl dX9_restore_46 ?_
    refine vv_getR (pc := 47) X (fun _ z => by cases List.mem_singleton.mp z; exact fl_X9_9_7) dX9_restore_47 (fun v13 => ?_)
    refine vv_iconst (pc := 50) X dX9_restore_50 ?_
    refine vv_callV (pc := 51) (rest := []) (by rfl) (fun r8 k8 e8 => zz_callS X (m_X9_lays (hlM X) _ _ _ _ _ _ _ e8) q3574 q3575 q164 q3576 nh_X9 rfl (by decide) (by decide) (Nat.le_of_ble_eq_true rfl) dX9_restore_51) (fun v14 h15 => ?_)
    refine vv_aload_n (pc := 54) X (kf := 0) (i := 0) rfl 0 rfl dX9_restore_54 ?_
    refine vv_iconst (pc := 55) X dX9_restore_55 ?_
    refine vv_putI (pc := 56) (fin := false) X (fun _ z => by cases List.mem_singleton.mp z; exact fl_X9_264_7) (fun z => nomatch z) (fun z => nomatch z) dX9_restore_56 (fun h16 => ?_)
    refine vv_aload_n (pc := 59) X (kf := 0) (i := 0) rfl 0 rfl dX9_restore_59 ?_
    refine vv_getR (pc := 60) X (fun _ z => by cases List.mem_singleton.mp z; exact fl_X9_9_7) dX9_restore_60 (fun v17 => ?_)
    refine vv_iconst (pc := 63) X dX9_restore_63 ?_
    refine vv_iaload (pc := 64) X dX9_restore_64 (fun v18 => ?_)
    exact vv_iretI X rfl rfl dX9_restore_65
  · exact vv_sub [] (by rfl) (B_X9_restore_35 X _)
noncomputable def f_X9_restore (a0 : Nat) (a1 : Int) (h : HP) : Option ((Int) × HP) :=
  (wrI h (some a0) [7] 7 0).bind fun h1 =>
  (rcv h1 (some a0) [7]).bind fun b4 =>
  hb (f_X9_noSlot b4 a1 h1) fun v2 h3 =>
  iEQ v2 0
    ((rdR h3 (some a0) [7] 5).bind fun v6 =>
    (aldI h3 .boolean v6 a1).bind fun v7 =>
    iEQ v7 0
      (b_X9_restore_28 (some a0) a1 1 (some a0) h3)
      (b_X9_restore_28 (some a0) a1 0 (some a0) h3))
    (b_X9_restore_35 h3)
theorem A_X9_restore {M : hp_M} {G : va_G} {h0 : HP} (X : hp_X M G h0 "RenamedWordsModel" "restore" cX9_restore 2 (some .int) [] 2 59) (a0 : Nat) (a1 : Int) (h : HP) : vv M G h0 2 (hp_End M G h0) jI h 0 [(0, LR (some a0)), (1, LI a1)] [] (f_X9_restore a0 a1 h) := by
  unfold f_X9_restore
  refine vv_aload_n (pc := 0) X (kf := 0) (i := 0) rfl 0 rfl dX9_restore_0 ?_
  refine vv_iconst (pc := 1) X dX9_restore_1 ?_
  refine vv_putI (pc := 2) (fin := false) X (fun _ z => by cases List.mem_singleton.mp z; exact fl_X9_69_7) (fun z => nomatch z) (fun z => nomatch z) dX9_restore_2 (fun h1 => ?_)
  refine vv_aload_n (pc := 5) X (kf := 0) (i := 0) rfl 0 rfl dX9_restore_5 ?_
  refine vv_iload_n (pc := 6) X (kf := 1) (i := 1) rfl 1 rfl dX9_restore_6 ?_
  refine vv_rcv (fun b4 t9 c9 fs9 e5 g9 k9 => ?_)
  cases List.mem_singleton.mp k9
  refine vv_callI (pc := 7) (rest := []) (by rw [e5]; rfl) (fun r8 k8 e8 => zz_callV X (m_X9_noSlot (hlM X) _ _ _ _ _ e8) g9 rfl rfl q4079 q4081 qs130 q164 q4082 nh_X9 rfl (by decide) (by decide) (Nat.le_of_ble_eq_true rfl) dX9_restore_7) (fun v2 h3 => ?_)
  refine vv_if_ne (pc := 10) (tgt := 35) X dX9_restore_10 rfl ?_ ?_
  · exact vv_sub [] (by rfl) (B_X9_restore_35 X _)
  · refine vv_aload_n (pc := 13) X (kf := 0) (i := 0) rfl 0 rfl dX9_restore_13 ?_
    refine vv_aload_n (pc := 14) X (kf := 0) (i := 0) rfl 0 rfl dX9_restore_14 ?_
    refine vv_getR (pc := 15) X (fun _ z => by cases List.mem_singleton.mp z; exact fl_X9_25_7) dX9_restore_15 (fun v6 => ?_)
    refine vv_iload_n (pc := 18) X (kf := 1) (i := 1) rfl 1 rfl dX9_restore_18 ?_
    refine vv_zaload (pc := 19) X dX9_restore_19 (fun v7 => ?_)
    refine vv_if_ne (pc := 20) (tgt := 27) X dX9_restore_20 rfl ?_ ?_
    · refine vv_iconst (pc := 27) X dX9_restore_27 ?_
      exact B_X9_restore_28 X _ _ _ _ _
    · refine vv_iconst (pc := 23) X dX9_restore_23 ?_
      refine vv_goto (pc := 24) (tgt := 28) X dX9_restore_24 rfl ?_
      exact B_X9_restore_28 X _ _ _ _ _
theorem m_X9_restore {l : Launch} (hl : l.stackTraces = false) {G : va_G} (a0 : Nat) (a1 : Int) (h : HP) : ∀ r hf, f_X9_restore a0 a1 h = some (r, hf) → Ct l yX9_restore (ws_ yX9_restore cX9_restore 2 (some .int)) 2 59 G h [.ref a0, .int (iI a1)] (jI r) hf :=
  zz_ofW hl (by decide +kernel) (lv := [(0, LR (some a0)), (1, LI a1)]) (by simp [lv_args, lvL, lvV, zz_rfc, zz_rfs, zz_ci, zz_cr, zz_cj, zz_cf, zz_cd]) (by simp [lg_sl, zz_rfc, zz_ci, zz_cr, zz_cj, zz_cf, zz_cd]) (fun _ X => A_X9_restore X a0 a1 h)
-- law, piece
noncomputable def b_L_law_2553 (r23 : Option Nat → Option Nat → Option Nat → Option Nat → Int → HP → Option ((Int) × HP)) (x0 : Option Nat) (x1 : Option Nat) (x2 : Option Nat) (x3 : Option Nat) (x4 : Int) (h : HP) : Option ((Int) × HP) :=
  r23 x0 x1 x2 x3 (x4 + 6) h
theorem B_L_law_2553 {M : hp_M} {G : va_G} {h0 : HP} (X : hp_X M G h0 "RenamedWordsLaw" "law" cL_law 9 (some .boolean) [] 8192 104096) (r23 : Option Nat → Option Nat → Option Nat → Option Nat → Int → HP → Option ((Int) × HP)) (hr23 : ∀ (y0 : Option Nat) (y1 : Option Nat) (y2 : Option Nat) (y3 : Option Nat) (y4 : Int) (h : HP), vv M G h0 9 (hp_End M G h0) jI h 23 [(0, LR y0), (1, LR y1), (2, LR y2), (3, LR y3), (4, LI y4)] [] (r23 y0 y1 y2 y3 y4 h)) (x0 : Option Nat) (x1 : Option Nat) (x2 : Option Nat) (x3 : Option Nat) (x4 : Int) (h : HP) : vv M G h0 9 (hp_End M G h0) jI h 2553 [(0, LR x0), (1, LR x1), (2, LR x2), (3, LR x3), (4, LI x4)] [] (b_L_law_2553 r23 x0 x1 x2 x3 x4 h) := by
  unfold b_L_law_2553
  refine vv_iinc (pc := 2553) (lv' := [(4, LI (x4 + 6)), (0, LR x0), (1, LR x1), (2, LR x2), (3, LR x3)]) X 4 rfl (by decide) rfl dL_law_2553 ?_
  refine vv_goto (pc := 2556) (tgt := 23) X dL_law_2556 rfl ?_
  exact vv_sub [1, 2, 3, 4, 0] (by rfl) (hr23 _ _ _ _ _ _)
-- law, piece
noncomputable def b_L_law_393 (r23 : Option Nat → Option Nat → Option Nat → Option Nat → Int → HP → Option ((Int) × HP)) (x0 : Option Nat) (x1 : Option Nat) (x2 : Option Nat) (x3 : Option Nat) (x4 : Int) (h : HP) : Option ((Int) × HP) :=
  b_L_law_2553 r23 x0 x1 x2 x3 x4 h
theorem B_L_law_393 {M : hp_M} {G : va_G} {h0 : HP} (X : hp_X M G h0 "RenamedWordsLaw" "law" cL_law 9 (some .boolean) [] 8192 104096) (r23 : Option Nat → Option Nat → Option Nat → Option Nat → Int → HP → Option ((Int) × HP)) (hr23 : ∀ (y0 : Option Nat) (y1 : Option Nat) (y2 : Option Nat) (y3 : Option Nat) (y4 : Int) (h : HP), vv M G h0 9 (hp_End M G h0) jI h 23 [(0, LR y0), (1, LR y1), (2, LR y2), (3, LR y3), (4, LI y4)] [] (r23 y0 y1 y2 y3 y4 h)) (x0 : Option Nat) (x1 : Option Nat) (x2 : Option Nat) (x3 : Option Nat) (x4 : Int) (h : HP) : vv M G h0 9 (hp_End M G h0) jI h 393 [(0, LR x0), (1, LR x1), (2, LR x2), (3, LR x3), (4, LI x4)] [] (b_L_law_393 r23 x0 x1 x2 x3 x4 h) := by
  unfold b_L_law_393
  refine vv_goto (pc := 393) (tgt := 2553) X dL_law_393 rfl ?_
  exact B_L_law_2553 X r23 hr23 _ _ _ _ _ _
-- law, piece
noncomputable def b_L_law_449 (r23 : Option Nat → Option Nat → Option Nat → Option Nat → Int → HP → Option ((Int) × HP)) (x0 : Option Nat) (x1 : Option Nat) (x2 : Option Nat) (x3 : Option Nat) (x4 : Int) (h : HP) : Option ((Int) × HP) :=
  b_L_law_2553 r23 x0 x1 x2 x3 x4 h
theorem B_L_law_449 {M : hp_M} {G : va_G} {h0 : HP} (X : hp_X M G h0 "RenamedWordsLaw" "law" cL_law 9 (some .boolean) [] 8192 104096) (r23 : Option Nat → Option Nat → Option Nat → Option Nat → Int → HP → Option ((Int) × HP)) (hr23 : ∀ (y0 : Option Nat) (y1 : Option Nat) (y2 : Option Nat) (y3 : Option Nat) (y4 : Int) (h : HP), vv M G h0 9 (hp_End M G h0) jI h 23 [(0, LR y0), (1, LR y1), (2, LR y2), (3, LR y3), (4, LI y4)] [] (r23 y0 y1 y2 y3 y4 h)) (x0 : Option Nat) (x1 : Option Nat) (x2 : Option Nat) (x3 : Option Nat) (x4 : Int) (h : HP) : vv M G h0 9 (hp_End M G h0) jI h 449 [(0, LR x0), (1, LR x1), (2, LR x2), (3, LR x3), (4, LI x4)] [] (b_L_law_449 r23 x0 x1 x2 x3 x4 h) := by
  unfold b_L_law_449
  refine vv_goto (pc := 449) (tgt := 2553) X dL_law_449 rfl ?_
  exact B_L_law_2553 X r23 hr23 _ _ _ _ _ _
