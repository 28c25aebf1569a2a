/-! STAGE 1c: functions and contracts (printed by gen/mkfuncs.py). -/
set_option maxRecDepth 100000
set_option linter.unusedVariables false
-- J0_init java/util/AbstractMap.<init>()V
noncomputable def f_J0_init (a0 : Nat) (h : HP) : Option ((Unit) × HP) :=
  some ((), h)
theorem A_J0_init {M : hp_M} {G : va_G} {h0 : HP} (X : hp_X M G h0 "java/util/AbstractMap" "<init>" cJ0_init 1 none [] 1 28) (a0 : Nat) (h : HP) : vv M G h0 1 (hp_End M G h0) jV h 0 [(0, LR (some a0))] [] (f_J0_init a0 h) := by
  unfold f_J0_init
  refine vv_aload_n (pc := 0) X (kf := 0) (i := 0) rfl 0 rfl dJ0_init_0 ?_
  refine vv_objInit (pc := 1) X rfl q233 q212 q213 (by decide) (by decide) (Nat.le_of_ble_eq_true rfl) dJ0_init_1 ?_
  exact vv_vreturn X rfl rfl dJ0_init_4
theorem m_J0_init {l : Launch} (hl : l.stackTraces = false) {G : va_G} (a0 : Nat) (h : HP) : ∀ r hf, f_J0_init a0 h = some (r, hf) → Ct l yJ0_init (ws_ yJ0_init cJ0_init 1 none) 1 28 G h [.ref a0] (jV r) hf :=
  zz_ofW hl (by decide +kernel) (lv := [(0, LR (some a0))]) (by simp [lv_args, lvL, lvV, zz_rfc, zz_rfs, zz_ci, zz_cr, zz_cj, zz_cf, zz_cd]) (by simp [lg_sl, zz_rfc, zz_ci, zz_cr, zz_cj, zz_cf, zz_cd]) (fun _ X => A_J0_init X a0 h)
-- J1_init java/util/HashMap.<init>()V
noncomputable def f_J1_init (a0 : Nat) (h : HP) : Option ((Unit) × HP) :=
  hb (f_J0_init a0 h) fun _ h2 =>
  (wrF h2 (some a0) [23] 7 (1061158912 : UInt32)).bind fun h3 =>
  some ((), h3)
theorem A_J1_init {M : hp_M} {G : va_G} {h0 : HP} (X : hp_X M G h0 "java/util/HashMap" "<init>" cJ1_init 1 none [] 2 56) (a0 : Nat) (h : HP) : vv M G h0 1 (hp_End M G h0) jV h 0 [(0, LR (some a0))] [] (f_J1_init a0 h) := by
  unfold f_J1_init
  refine vv_aload_n (pc := 0) X (kf := 0) (i := 0) rfl 0 rfl dJ1_init_0 ?_
  refine vv_callV (pc := 1) (rest := []) (by rfl) (fun r8 k8 e8 => zz_callI X (m_J0_init (hlM X) _ _ _ _ e8) q230 q231 q135 q232 rfl nh_J0 rfl (by decide) (by decide) (Nat.le_of_ble_eq_true rfl) dJ1_init_1) (fun v1 h2 => ?_)
  refine vv_aload_n (pc := 4) X (kf := 0) (i := 0) rfl 0 rfl dJ1_init_4 ?_
  refine vv_ldcF (pc := 5) X q234 dJ1_init_5 ?_
  refine vv_putF (pc := 7) (fin := true) X (fun _ z => by cases List.mem_singleton.mp z; exact fl_J1_81_23) (fun _ => rfl) (fun _ => (fun _ z => by cases List.mem_singleton.mp z; exact ⟨_, rfl, rfl⟩)) dJ1_init_7 (fun h3 => ?_)
  exact vv_vreturn X rfl rfl dJ1_init_10
theorem m_J1_init {l : Launch} (hl : l.stackTraces = false) {G : va_G} (a0 : Nat) (h : HP) : ∀ r hf, f_J1_init a0 h = some (r, hf) → Ct l yJ1_init (ws_ yJ1_init cJ1_init 1 none) 2 56 G h [.ref a0] (jV r) hf :=
  zz_ofW hl (by decide +kernel) (lv := [(0, LR (some a0))]) (by simp [lv_args, lvL, lvV, zz_rfc, zz_rfs, zz_ci, zz_cr, zz_cj, zz_cf, zz_cd]) (by simp [lg_sl, zz_rfc, zz_ci, zz_cr, zz_cj, zz_cf, zz_cd]) (fun _ X => A_J1_init X a0 h)
-- J2_init java/util/AbstractCollection.<init>()V
noncomputable def f_J2_init (a0 : Nat) (h : HP) : Option ((Unit) × HP) :=
  some ((), h)
theorem A_J2_init {M : hp_M} {G : va_G} {h0 : HP} (X : hp_X M G h0 "java/util/AbstractCollection" "<init>" cJ2_init 1 none [] 1 28) (a0 : Nat) (h : HP) : vv M G h0 1 (hp_End M G h0) jV h 0 [(0, LR (some a0))] [] (f_J2_init a0 h) := by
  unfold f_J2_init
  refine vv_aload_n (pc := 0) X (kf := 0) (i := 0) rfl 0 rfl dJ2_init_0 ?_
  refine vv_objInit (pc := 1) X rfl q268 q212 q213 (by decide) (by decide) (Nat.le_of_ble_eq_true rfl) dJ2_init_1 ?_
  exact vv_vreturn X rfl rfl dJ2_init_4
theorem m_J2_init {l : Launch} (hl : l.stackTraces = false) {G : va_G} (a0 : Nat) (h : HP) : ∀ r hf, f_J2_init a0 h = some (r, hf) → Ct l yJ2_init (ws_ yJ2_init cJ2_init 1 none) 1 28 G h [.ref a0] (jV r) hf :=
  zz_ofW hl (by decide +kernel) (lv := [(0, LR (some a0))]) (by simp [lv_args, lvL, lvV, zz_rfc, zz_rfs, zz_ci, zz_cr, zz_cj, zz_cf, zz_cd]) (by simp [lg_sl, zz_rfc, zz_ci, zz_cr, zz_cj, zz_cf, zz_cd]) (fun _ X => A_J2_init X a0 h)
-- J3_init java/util/AbstractList.<init>()V
noncomputable def f_J3_init (a0 : Nat) (h : HP) : Option ((Unit) × HP) :=
  hb (f_J2_init a0 h) fun _ h2 =>
  (wrI h2 (some a0) [24, 28] 0 0).bind fun h3 =>
  some ((), h3)
theorem A_J3_init {M : hp_M} {G : va_G} {h0 : HP} (X : hp_X M G h0 "java/util/AbstractList" "<init>" cJ3_init 1 none [] 2 56) (a0 : Nat) (h : HP) : vv M G h0 1 (hp_End M G h0) jV h 0 [(0, LR (some a0))] [] (f_J3_init a0 h) := by
  unfold f_J3_init
  refine vv_aload_n (pc := 0) X (kf := 0) (i := 0) rfl 0 rfl dJ3_init_0 ?_
  refine vv_callV (pc := 1) (rest := []) (by rfl) (fun r8 k8 e8 => zz_callI X (m_J2_init (hlM X) _ _ _ _ e8) q265 q266 q137 q267 rfl nh_J2 rfl (by decide) (by decide) (Nat.le_of_ble_eq_true rfl) dJ3_init_1) (fun v1 h2 => ?_)
  refine vv_aload_n (pc := 4) X (kf := 0) (i := 0) rfl 0 rfl dJ3_init_4 ?_
  refine vv_iconst (pc := 5) X dJ3_init_5 ?_
  refine vv_putI (pc := 6) (fin := false) X (fun _ z => by rcases List.mem_cons.mp z with rfl | z; exact fl_J3_7_24; cases List.mem_singleton.mp z; exact fl_J3_7_28) (fun z => nomatch z) (fun z => nomatch z) dJ3_init_6 (fun h3 => ?_)
  exact vv_vreturn X rfl rfl dJ3_init_9
theorem m_J3_init {l : Launch} (hl : l.stackTraces = false) {G : va_G} (a0 : Nat) (h : HP) : ∀ r hf, f_J3_init a0 h = some (r, hf) → Ct l yJ3_init (ws_ yJ3_init cJ3_init 1 none) 2 56 G h [.ref a0] (jV r) hf :=
  zz_ofW hl (by decide +kernel) (lv := [(0, LR (some a0))]) (by simp [lv_args, lvL, lvV, zz_rfc, zz_rfs, zz_ci, zz_cr, zz_cj, zz_cf, zz_cd]) (by simp [lg_sl, zz_rfc, zz_ci, zz_cr, zz_cj, zz_cf, zz_cd]) (fun _ X => A_J3_init X a0 h)
-- J4_init java/util/ArrayList.<init>(I)V
noncomputable def f_J4_init (a0 : Nat) (a1 : Int) (h : HP) : Option ((Unit) × HP) :=
  hb (f_J3_init a0 h) fun _ h2 =>
  iLE a1 0
    (iEQ a1 0
      (none)
      (none))
    (hb (nwR h2 (tgR h2 (some a0)) "java/lang/Object" a1) fun v3 h4 =>
    (wrR h4 (some a0) [24] 1 v3).bind fun h5 =>
    some ((), h5))
theorem A_J4_init {M : hp_M} {G : va_G} {h0 : HP} (X : hp_X M G h0 "java/util/ArrayList" "<init>" cJ4_init 2 none [] 3 84) (a0 : Nat) (a1 : Int) (h : HP) : vv M G h0 2 (hp_End M G h0) jV h 0 [(0, LR (some a0)), (1, LI a1)] [] (f_J4_init a0 a1 h) := by
  unfold f_J4_init
  refine vv_aload_n (pc := 0) X (kf := 0) (i := 0) rfl 0 rfl dJ4_init_0 ?_
  refine vv_callV (pc := 1) (rest := []) (by rfl) (fun r8 k8 e8 => zz_callI X (m_J3_init (hlM X) _ _ _ _ e8) q262 q263 q138 q264 rfl nh_J3 rfl (by decide) (by decide) (Nat.le_of_ble_eq_true rfl) dJ4_init_1) (fun v1 h2 => ?_)
  refine vv_iload_n (pc := 4) X (kf := 1) (i := 1) rfl 1 rfl dJ4_init_4 ?_
  refine vv_if_le (pc := 5) (tgt := 19) X dJ4_init_5 rfl ?_ ?_
  · refine vv_iload_n (pc := 19) X (kf := 1) (i := 1) rfl 1 rfl dJ4_init_19 ?_
    refine vv_if_ne (pc := 20) (tgt := 33) X dJ4_init_20 rfl ?_ ?_
    · exact vv_none
    · refine vv_aload_n (pc := 23) X (kf := 0) (i := 0) rfl 0 rfl dJ4_init_23 ?_
      exact vv_none
  · refine vv_aload_n (pc := 8) X (kf := 0) (i := 0) rfl 0 rfl dJ4_init_8 ?_
    refine vv_iload_n (pc := 9) X (kf := 1) (i := 1) rfl 1 rfl dJ4_init_9 ?_
    refine vv_newref (pc := 10) X q269 ao_java_lang_Object dJ4_init_10 (fun v3 h4 => ?_)
    refine vv_putR (pc := 13) (ty9 := (.array (.object "java/lang/Object"))) (fin := false) X (fun _ z => by cases List.mem_singleton.mp z; exact fl_J4_9_24) (fun z => nomatch z) (fun z => nomatch z) (by decide +kernel) rfl dJ4_init_13 (fun h5 => ?_)
    refine vv_goto (pc := 16) (tgt := 60) X dJ4_init_16 rfl ?_
    exact vv_vreturn X rfl rfl dJ4_init_60
theorem m_J4_init {l : Launch} (hl : l.stackTraces = false) {G : va_G} (a0 : Nat) (a1 : Int) (h : HP) : ∀ r hf, f_J4_init a0 a1 h = some (r, hf) → Ct l yJ4_init (ws_ yJ4_init cJ4_init 2 none) 3 84 G h [.ref a0, .int (iI a1)] (jV r) hf :=
  zz_ofW hl (by decide +kernel) (lv := [(0, LR (some a0)), (1, LI a1)]) (by simp [lv_args, lvL, lvV, zz_rfc, zz_rfs, zz_ci, zz_cr, zz_cj, zz_cf, zz_cd]) (by simp [lg_sl, zz_rfc, zz_ci, zz_cr, zz_cj, zz_cf, zz_cd]) (fun _ X => A_J4_init X a0 a1 h)
-- X3_init RenamedWords$Names.<init>()V
noncomputable def f_X3_init (a0 : Nat) (h : HP) : Option ((Unit) × HP) :=
  hb (nwO h (tgR h (some a0)) 23 [.inr (.inl none), .inr (.inl none), .inr (.inl none), .inr (.inl none), .inl 0, .inl 0, .inl 0, .inr (.inr 0)] 8) fun v1 h2 =>
  (v1).bind fun b5 =>
  hb (f_J1_init b5 h2) fun _ h4 =>
  (wrR h4 (some a0) [2] 0 v1).bind fun h7 =>
  hb (nwO h7 (tgR h7 (some a0)) 24 [.inl 0, .inr (.inl none), .inl 0] 3) fun v8 h9 =>
  (v8).bind fun b12 =>
  hb (f_J4_init b12 8 h9) fun _ h11 =>
  (wrR h11 (some a0) [2] 1 v8).bind fun h14 =>
  some ((), h14)
theorem A_X3_init {M : hp_M} {G : va_G} {h0 : HP} (X : hp_X M G h0 "RenamedWords$Names" "<init>" cX3_init 1 none [] 4 113) (a0 : Nat) (h : HP) : vv M G h0 1 (hp_End M G h0) jV h 0 [(0, LR (some a0))] [] (f_X3_init a0 h) := by
  unfold f_X3_init
  refine vv_aload_n (pc := 0) X (kf := 0) (i := 0) rfl 0 rfl dX3_init_0 ?_
  refine vv_objInit (pc := 1) X rfl q224 q212 q213 (by decide) (by decide) (Nat.le_of_ble_eq_true rfl) dX3_init_1 ?_
  refine vv_aload_n (pc := 4) X (kf := 0) (i := 0) rfl 0 rfl dX3_init_4 ?_
  refine vv_new (pc := 5) X tyJ1 rfl in_J1 tyJ1_ok q225 q226 q136 ndJ1 (by decide) dX3_init_5 (fun v1 h2 => ?_)
  refine vv_dup (pc := 8) X rfl dX3_init_8 ?_
  refine vv_bnd (fun b5 e6 => ?_)
  refine vv_callV (pc := 9) (rest := [LR v1, LR (some a0)]) (by rw [e6]; rfl) (fun r8 k8 e8 => zz_callI X (m_J1_init (hlM X) _ _ _ _ e8) q227 q228 q136 q229 rfl nh_J1 rfl (by decide) (by decide) (Nat.le_of_ble_eq_true rfl) dX3_init_9) (fun v3 h4 => ?_)
  refine vv_putR (pc := 12) (ty9 := (.object "java/util/Map")) (fin := true) X (fun _ z => by cases List.mem_singleton.mp z; exact fl_X3_12_2) (fun _ => rfl) (fun _ => (fun _ z => by cases List.mem_singleton.mp z; exact ⟨_, rfl, rfl⟩)) (by decide +kernel) rfl dX3_init_12 (fun h7 => ?_)
  refine vv_aload_n (pc := 15) X (kf := 0) (i := 0) rfl 0 rfl dX3_init_15 ?_
  refine vv_new (pc := 16) X tyJ4 rfl in_J4 tyJ4_ok q257 q258 q139 ndJ4 (by decide) dX3_init_16 (fun v8 h9 => ?_)
  refine vv_dup (pc := 19) X rfl dX3_init_19 ?_
  refine vv_bipush (pc := 20) X (by decide) dX3_init_20 ?_
  refine vv_bnd (fun b12 e13 => ?_)
  refine vv_callV (pc := 22) (rest := [LR v8, LR (some a0)]) (by rw [e13]; rfl) (fun r8 k8 e8 => zz_callI X (m_J4_init (hlM X) _ _ _ _ _ e8) q259 q260 q139 q261 rfl nh_J4 rfl (by decide) (by decide) (Nat.le_of_ble_eq_true rfl) dX3_init_22) (fun v10 h11 => ?_)
  refine vv_putR (pc := 25) (ty9 := (.object "java/util/List")) (fin := true) X (fun _ z => by cases List.mem_singleton.mp z; exact fl_X3_23_2) (fun _ => rfl) (fun _ => (fun _ z => by cases List.mem_singleton.mp z; exact ⟨_, rfl, rfl⟩)) (by decide +kernel) rfl dX3_init_25 (fun h14 => ?_)
  exact vv_vreturn X rfl rfl dX3_init_28
theorem m_X3_init {l : Launch} (hl : l.stackTraces = false) {G : va_G} (a0 : Nat) (h : HP) : ∀ r hf, f_X3_init a0 h = some (r, hf) → Ct l yX3_init (ws_ yX3_init cX3_init 1 none) 4 113 G h [.ref a0] (jV r) hf :=
  zz_ofW hl (by decide +kernel) (lv := [(0, LR (some a0))]) (by simp [lv_args, lvL, lvV, zz_rfc, zz_rfs, zz_ci, zz_cr, zz_cj, zz_cf, zz_cd]) (by simp [lg_sl, zz_rfc, zz_ci, zz_cr, zz_cj, zz_cf, zz_cd]) (fun _ X => A_X3_init X a0 h)
-- X4_init RenamedWords$Row.<init>()V
noncomputable def f_X4_init (a0 : Nat) (h : HP) : Option ((Unit) × HP) :=
  some ((), h)
theorem A_X4_init {M : hp_M} {G : va_G} {h0 : HP} (X : hp_X M G h0 "RenamedWords$Row" "<init>" cX4_init 1 none [] 1 28) (a0 : Nat) (h : HP) : vv M G h0 1 (hp_End M G h0) jV h 0 [(0, LR (some a0))] [] (f_X4_init a0 h) := by
  unfold f_X4_init
  refine vv_aload_n (pc := 0) X (kf := 0) (i := 0) rfl 0 rfl dX4_init_0 ?_
  refine vv_objInit (pc := 1) X rfl q631 q212 q213 (by decide) (by decide) (Nat.le_of_ble_eq_true rfl) dX4_init_1 ?_
  exact vv_vreturn X rfl rfl dX4_init_4
theorem m_X4_init {l : Launch} (hl : l.stackTraces = false) {G : va_G} (a0 : Nat) (h : HP) : ∀ r hf, f_X4_init a0 h = some (r, hf) → Ct l yX4_init (ws_ yX4_init cX4_init 1 none) 1 28 G h [.ref a0] (jV r) hf :=
  zz_ofW hl (by decide +kernel) (lv := [(0, LR (some a0))]) (by simp [lv_args, lvL, lvV, zz_rfc, zz_rfs, zz_ci, zz_cr, zz_cj, zz_cf, zz_cd]) (by simp [lg_sl, zz_rfc, zz_ci, zz_cr, zz_cj, zz_cf, zz_cd]) (fun _ X => A_X4_init X a0 h)
-- X5_init RenamedWords$Text.<init>()V
noncomputable def f_X5_init (a0 : Nat) (h : HP) : Option ((Unit) × HP) :=
  hb (f_X4_init a0 h) fun _ h2 =>
  hb (nwI h2 (tgR h2 (some a0)) .int 200) fun v3 h4 =>
  (wrR h4 (some a0) [3] 0 v3).bind fun h5 =>
  hb (nwI h5 (tgR h5 (some a0)) .int 200) fun v6 h7 =>
  (wrR h7 (some a0) [3] 1 v6).bind fun h8 =>
  hb (nwI h8 (tgR h8 (some a0)) .int 26) fun v9 h10 =>
  (wrR h10 (some a0) [3] 2 v9).bind fun h11 =>
  (wrI h11 (some a0) [3] 4 (-1)).bind fun h12 =>
  some ((), h12)
theorem A_X5_init {M : hp_M} {G : va_G} {h0 : HP} (X : hp_X M G h0 "RenamedWords$Text" "<init>" cX5_init 1 none [] 2 56) (a0 : Nat) (h : HP) : vv M G h0 1 (hp_End M G h0) jV h 0 [(0, LR (some a0))] [] (f_X5_init a0 h) := by
  unfold f_X5_init
  refine vv_aload_n (pc := 0) X (kf := 0) (i := 0) rfl 0 rfl dX5_init_0 ?_
  refine vv_callV (pc := 1) (rest := []) (by rfl) (fun r8 k8 e8 => zz_callIN X (m_X4_init (hlM X) _ _ _ _ e8) q628 q629 q156 q630 rfl nh_X4 rfl (by decide) (by decide) (Nat.le_of_ble_eq_true rfl) dX5_init_1) (fun v1 h2 => ?_)
  refine vv_aload_n (pc := 4) X (kf := 0) (i := 0) rfl 0 rfl dX5_init_4 ?_
  refine vv_sipush (pc := 5) X (by decide) dX5_init_5 ?_
  refine vv_newint (pc := 8) X dX5_init_8 (fun v3 h4 => ?_)
  refine vv_putR (pc := 10) (ty9 := (.array .int)) (fin := true) X (fun _ z => by cases List.mem_singleton.mp z; exact fl_X5_9_3) (fun _ => rfl) (fun _ => (fun _ z => by cases List.mem_singleton.mp z; exact ⟨_, rfl, rfl⟩)) (by decide +kernel) rfl dX5_init_10 (fun h5 => ?_)
  refine vv_aload_n (pc := 13) X (kf := 0) (i := 0) rfl 0 rfl dX5_init_13 ?_
  refine vv_sipush (pc := 14) X (by decide) dX5_init_14 ?_
  refine vv_newint (pc := 17) X dX5_init_17 (fun v6 h7 => ?_)
  refine vv_putR (pc := 19) (ty9 := (.array .int)) (fin := true) X (fun _ z => by cases List.mem_singleton.mp z; exact fl_X5_15_3) (fun _ => rfl) (fun _ => (fun _ z => by cases List.mem_singleton.mp z; exact ⟨_, rfl, rfl⟩)) (by decide +kernel) rfl dX5_init_19 (fun h8 => ?_)
  refine vv_aload_n (pc := 22) X (kf := 0) (i := 0) rfl 0 rfl dX5_init_22 ?_
  refine vv_bipush (pc := 23) X (by decide) dX5_init_23 ?_
  refine vv_newint (pc := 25) X dX5_init_25 (fun v9 h10 => ?_)
  refine vv_putR (pc := 27) (ty9 := (.array .int)) (fin := true) X (fun _ z => by cases List.mem_singleton.mp z; exact fl_X5_18_3) (fun _ => rfl) (fun _ => (fun _ z => by cases List.mem_singleton.mp z; exact ⟨_, rfl, rfl⟩)) (by decide +kernel) rfl dX5_init_27 (fun h11 => ?_)
  refine vv_aload_n (pc := 30) X (kf := 0) (i := 0) rfl 0 rfl dX5_init_30 ?_
  refine vv_iconst (pc := 31) X dX5_init_31 ?_
  refine vv_putI (pc := 32) (fin := false) X (fun _ z => by cases List.mem_singleton.mp z; exact fl_X5_21_3) (fun z => nomatch z) (fun z => nomatch z) dX5_init_32 (fun h12 => ?_)
  exact vv_vreturn X rfl rfl dX5_init_35
theorem m_X5_init {l : Launch} (hl : l.stackTraces = false) {G : va_G} (a0 : Nat) (h : HP) : ∀ r hf, f_X5_init a0 h = some (r, hf) → Ct l yX5_init (ws_ yX5_init cX5_init 1 none) 2 56 G h [.ref a0] (jV r) hf :=
  zz_ofW hl (by decide +kernel) (lv := [(0, LR (some a0))]) (by simp [lv_args, lvL, lvV, zz_rfc, zz_rfs, zz_ci, zz_cr, zz_cj, zz_cf, zz_cd]) (by simp [lg_sl, zz_rfc, zz_ci, zz_cr, zz_cj, zz_cf, zz_cd]) (fun _ X => A_X5_init X a0 h)
-- X6_init RenamedWords$Marks.<init>()V
noncomputable def f_X6_init (a0 : Nat) (h : HP) : Option ((Unit) × HP) :=
  some ((), h)
theorem A_X6_init {M : hp_M} {G : va_G} {h0 : HP} (X : hp_X M G h0 "RenamedWords$Marks" "<init>" cX6_init 1 none [] 1 28) (a0 : Nat) (h : HP) : vv M G h0 1 (hp_End M G h0) jV h 0 [(0, LR (some a0))] [] (f_X6_init a0 h) := by
  unfold f_X6_init
  refine vv_aload_n (pc := 0) X (kf := 0) (i := 0) rfl 0 rfl dX6_init_0 ?_
  refine vv_objInit (pc := 1) X rfl q661 q212 q213 (by decide) (by decide) (Nat.le_of_ble_eq_true rfl) dX6_init_1 ?_
  exact vv_vreturn X rfl rfl dX6_init_4
theorem m_X6_init {l : Launch} (hl : l.stackTraces = false) {G : va_G} (a0 : Nat) (h : HP) : ∀ r hf, f_X6_init a0 h = some (r, hf) → Ct l yX6_init (ws_ yX6_init cX6_init 1 none) 1 28 G h [.ref a0] (jV r) hf :=
  zz_ofW hl (by decide +kernel) (lv := [(0, LR (some a0))]) (by simp [lv_args, lvL, lvV, zz_rfc, zz_rfs, zz_ci, zz_cr, zz_cj, zz_cf, zz_cd]) (by simp [lg_sl, zz_rfc, zz_ci, zz_cr, zz_cj, zz_cf, zz_cd]) (fun _ X => A_X6_init X a0 h)
-- X7_init RenamedWords$Window.<init>()V
noncomputable def f_X7_init (a0 : Nat) (h : HP) : Option ((Unit) × HP) :=
  hb (f_X4_init a0 h) fun _ h2 =>
  some ((), h2)
theorem A_X7_init {M : hp_M} {G : va_G} {h0 : HP} (X : hp_X M G h0 "RenamedWords$Window" "<init>" cX7_init 1 none [] 2 56) (a0 : Nat) (h : HP) : vv M G h0 1 (hp_End M G h0) jV h 0 [(0, LR (some a0))] [] (f_X7_init a0 h) := by
  unfold f_X7_init
  refine vv_aload_n (pc := 0) X (kf := 0) (i := 0) rfl 0 rfl dX7_init_0 ?_
  refine vv_callV (pc := 1) (rest := []) (by rfl) (fun r8 k8 e8 => zz_callIN X (m_X4_init (hlM X) _ _ _ _ e8) q682 q629 q156 q630 rfl nh_X4 rfl (by decide) (by decide) (Nat.le_of_ble_eq_true rfl) dX7_init_1) (fun v1 h2 => ?_)
  exact vv_vreturn X rfl rfl dX7_init_4
theorem m_X7_init {l : Launch} (hl : l.stackTraces = false) {G : va_G} (a0 : Nat) (h : HP) : ∀ r hf, f_X7_init a0 h = some (r, hf) → Ct l yX7_init (ws_ yX7_init cX7_init 1 none) 2 56 G h [.ref a0] (jV r) hf :=
  zz_ofW hl (by decide +kernel) (lv := [(0, LR (some a0))]) (by simp [lv_args, lvL, lvV, zz_rfc, zz_rfs, zz_ci, zz_cr, zz_cj, zz_cf, zz_cd]) (by simp [lg_sl, zz_rfc, zz_ci, zz_cr, zz_cj, zz_cf, zz_cd]) (fun _ X => A_X7_init X a0 h)
-- X8_init RenamedWords$Inventory.<init>()V
noncomputable def f_X8_init (a0 : Nat) (h : HP) : Option ((Unit) × HP) :=
  hb (nwI h (tgR h (some a0)) .int 26) fun v1 h2 =>
  (wrR h2 (some a0) [6] 0 v1).bind fun h3 =>
  hb (nwI h3 (tgR h3 (some a0)) .int 201) fun v4 h5 =>
  (wrR h5 (some a0) [6] 1 v4).bind fun h6 =>
  some ((), h6)
theorem A_X8_init {M : hp_M} {G : va_G} {h0 : HP} (X : hp_X M G h0 "RenamedWords$Inventory" "<init>" cX8_init 1 none [] 1 28) (a0 : Nat) (h : HP) : vv M G h0 1 (hp_End M G h0) jV h 0 [(0, LR (some a0))] [] (f_X8_init a0 h) := by
  unfold f_X8_init
  refine vv_aload_n (pc := 0) X (kf := 0) (i := 0) rfl 0 rfl dX8_init_0 ?_
  refine vv_objInit (pc := 1) X rfl q698 q212 q213 (by decide) (by decide) (Nat.le_of_ble_eq_true rfl) dX8_init_1 ?_
  refine vv_aload_n (pc := 4) X (kf := 0) (i := 0) rfl 0 rfl dX8_init_4 ?_
  refine vv_bipush (pc := 5) X (by decide) dX8_init_5 ?_
  refine vv_newint (pc := 7) X dX8_init_7 (fun v1 h2 => ?_)
  refine vv_putR (pc := 9) (ty9 := (.array .int)) (fin := true) X (fun _ z => by cases List.mem_singleton.mp z; exact fl_X8_9_6) (fun _ => rfl) (fun _ => (fun _ z => by cases List.mem_singleton.mp z; exact ⟨_, rfl, rfl⟩)) (by decide +kernel) rfl dX8_init_9 (fun h3 => ?_)
  refine vv_aload_n (pc := 12) X (kf := 0) (i := 0) rfl 0 rfl dX8_init_12 ?_
  refine vv_sipush (pc := 13) X (by decide) dX8_init_13 ?_
  refine vv_newint (pc := 16) X dX8_init_16 (fun v4 h5 => ?_)
  refine vv_putR (pc := 18) (ty9 := (.array .int)) (fin := true) X (fun _ z => by cases List.mem_singleton.mp z; exact fl_X8_15_6) (fun _ => rfl) (fun _ => (fun _ z => by cases List.mem_singleton.mp z; exact ⟨_, rfl, rfl⟩)) (by decide +kernel) rfl dX8_init_18 (fun h6 => ?_)
  exact vv_vreturn X rfl rfl dX8_init_21
theorem m_X8_init {l : Launch} (hl : l.stackTraces = false) {G : va_G} (a0 : Nat) (h : HP) : ∀ r hf, f_X8_init a0 h = some (r, hf) → Ct l yX8_init (ws_ yX8_init cX8_init 1 none) 1 28 G h [.ref a0] (jV r) hf :=
  zz_ofW hl (by decide +kernel) (lv := [(0, LR (some a0))]) (by simp [lv_args, lvL, lvV, zz_rfc, zz_rfs, zz_ci, zz_cr, zz_cj, zz_cf, zz_cd]) (by simp [lg_sl, zz_rfc, zz_ci, zz_cr, zz_cj, zz_cf, zz_cd]) (fun _ X => A_X8_init X a0 h)
-- X2_init RenamedWords$Desk.<init>(LRenamedWords$Names;)V
noncomputable def f_X2_init (a0 : Nat) (a1 : Option Nat) (h : HP) : Option ((Unit) × HP) :=
  hb (nwO h (tgR h (some a0)) 3 [.inr (.inl none), .inr (.inl none), .inr (.inl none), .inl 0, .inl 0] 5) fun v1 h2 =>
  (v1).bind fun b5 =>
  hb (f_X5_init b5 h2) fun _ h4 =>
  (wrR h4 (some a0) [1] 0 v1).bind fun h7 =>
  hb (nwR h7 (tgR h7 (some a0)) "RenamedWords$Word" 8) fun v8 h9 =>
  (wrR h9 (some a0) [1] 2 v8).bind fun h10 =>
  hb (nwO h10 (tgR h10 (some a0)) 4 [.inr (.inl none), .inr (.inl none), .inl 0] 3) fun v11 h12 =>
  (v11).bind fun b15 =>
  hb (f_X6_init b15 h12) fun _ h14 =>
  (wrR h14 (some a0) [1] 3 v11).bind fun h17 =>
  hb (nwI h17 (tgR h17 (some a0)) .int 8) fun v18 h19 =>
  (wrR h19 (some a0) [1] 4 v18).bind fun h20 =>
  hb (nwO h20 (tgR h20 (some a0)) 5 [.inr (.inl none), .inl 0, .inl 0] 3) fun v21 h22 =>
  (v21).bind fun b25 =>
  hb (f_X7_init b25 h22) fun _ h24 =>
  (wrR h24 (some a0) [1] 5 v21).bind fun h27 =>
  hb (nwO h27 (tgR h27 (some a0)) 5 [.inr (.inl none), .inl 0, .inl 0] 3) fun v28 h29 =>
  (v28).bind fun b32 =>
  hb (f_X7_init b32 h29) fun _ h31 =>
  (wrR h31 (some a0) [1] 6 v28).bind fun h34 =>
  hb (nwO h34 (tgR h34 (some a0)) 6 [.inr (.inl none), .inr (.inl none)] 2) fun v35 h36 =>
  (v35).bind fun b39 =>
  hb (f_X8_init b39 h36) fun _ h38 =>
  (wrR h38 (some a0) [1] 8 v35).bind fun h41 =>
  hb (nwO h41 (tgR h41 (some a0)) 6 [.inr (.inl none), .inr (.inl none)] 2) fun v42 h43 =>
  (v42).bind fun b46 =>
  hb (f_X8_init b46 h43) fun _ h45 =>
  (wrR h45 (some a0) [1] 9 v42).bind fun h48 =>
  (wrR h48 (some a0) [1] 1 a1).bind fun h49 =>
  some ((), h49)
theorem A_X2_init {M : hp_M} {G : va_G} {h0 : HP} (X : hp_X M G h0 "RenamedWords$Desk" "<init>" cX2_init 2 none [] 3 84) (a0 : Nat) (a1 : Option Nat) (h : HP) : vv M G h0 2 (hp_End M G h0) jV h 0 [(0, LR (some a0)), (1, LR a1)] [] (f_X2_init a0 a1 h) := by
  unfold f_X2_init
  refine vv_aload_n (pc := 0) X (kf := 0) (i := 0) rfl 0 rfl dX2_init_0 ?_
  refine vv_objInit (pc := 1) X rfl q622 q212 q213 (by decide) (by decide) (Nat.le_of_ble_eq_true rfl) dX2_init_1 ?_
  refine vv_aload_n (pc := 4) X (kf := 0) (i := 0) rfl 0 rfl dX2_init_4 ?_
  refine vv_new (pc := 5) X tyX5 rfl in_X5 tyX5_ok q623 q624 q157 ndX5 (by decide) dX2_init_5 (fun v1 h2 => ?_)
  refine vv_dup (pc := 8) X rfl dX2_init_8 ?_
  refine vv_bnd (fun b5 e6 => ?_)
  refine vv_callV (pc := 9) (rest := [LR v1, LR (some a0)]) (by rw [e6]; rfl) (fun r8 k8 e8 => zz_callIN X (m_X5_init (hlM X) _ _ _ _ e8) q625 q626 q157 q627 rfl nh_X5 rfl (by decide) (by decide) (Nat.le_of_ble_eq_true rfl) dX2_init_9) (fun v3 h4 => ?_)
  refine vv_putR (pc := 12) (ty9 := (.object "RenamedWords$Text")) (fin := true) X (fun _ z => by cases List.mem_singleton.mp z; exact fl_X2_12_1) (fun _ => rfl) (fun _ => (fun _ z => by cases List.mem_singleton.mp z; exact ⟨_, rfl, rfl⟩)) (by decide +kernel) rfl dX2_init_12 (fun h7 => ?_)
  refine vv_aload_n (pc := 15) X (kf := 0) (i := 0) rfl 0 rfl dX2_init_15 ?_
  refine vv_bipush (pc := 16) X (by decide) dX2_init_16 ?_
  refine vv_newref (pc := 18) X q654 ao_RenamedWords_Word dX2_init_18 (fun v8 h9 => ?_)
  refine vv_putR (pc := 21) (ty9 := (.array (.object "RenamedWords$Word"))) (fin := true) X (fun _ z => by cases List.mem_singleton.mp z; exact fl_X2_20_1) (fun _ => rfl) (fun _ => (fun _ z => by cases List.mem_singleton.mp z; exact ⟨_, rfl, rfl⟩)) (by decide +kernel) rfl dX2_init_21 (fun h10 => ?_)
  refine vv_aload_n (pc := 24) X (kf := 0) (i := 0) rfl 0 rfl dX2_init_24 ?_
  refine vv_new (pc := 25) X tyX6 rfl in_X6 tyX6_ok q656 q657 q158 ndX6 (by decide) dX2_init_25 (fun v11 h12 => ?_)
  refine vv_dup (pc := 28) X rfl dX2_init_28 ?_
  refine vv_bnd (fun b15 e16 => ?_)
  refine vv_callV (pc := 29) (rest := [LR v11, LR (some a0)]) (by rw [e16]; rfl) (fun r8 k8 e8 => zz_callIN X (m_X6_init (hlM X) _ _ _ _ e8) q658 q659 q158 q660 rfl nh_X6 rfl (by decide) (by decide) (Nat.le_of_ble_eq_true rfl) dX2_init_29) (fun v13 h14 => ?_)
  refine vv_putR (pc := 32) (ty9 := (.object "RenamedWords$Marks")) (fin := true) X (fun _ z => by cases List.mem_singleton.mp z; exact fl_X2_27_1) (fun _ => rfl) (fun _ => (fun _ z => by cases List.mem_singleton.mp z; exact ⟨_, rfl, rfl⟩)) (by decide +kernel) rfl dX2_init_32 (fun h17 => ?_)
  refine vv_aload_n (pc := 35) X (kf := 0) (i := 0) rfl 0 rfl dX2_init_35 ?_
  refine vv_bipush (pc := 36) X (by decide) dX2_init_36 ?_
  refine vv_newint (pc := 38) X dX2_init_38 (fun v18 h19 => ?_)
  refine vv_putR (pc := 40) (ty9 := (.array .int)) (fin := true) X (fun _ z => by cases List.mem_singleton.mp z; exact fl_X2_31_1) (fun _ => rfl) (fun _ => (fun _ z => by cases List.mem_singleton.mp z; exact ⟨_, rfl, rfl⟩)) (by decide +kernel) rfl dX2_init_40 (fun h20 => ?_)
  refine vv_aload_n (pc := 43) X (kf := 0) (i := 0) rfl 0 rfl dX2_init_43 ?_
  refine vv_new (pc := 44) X tyX7 rfl in_X7 tyX7_ok q677 q678 q159 ndX7 (by decide) dX2_init_44 (fun v21 h22 => ?_)
  refine vv_dup (pc := 47) X rfl dX2_init_47 ?_
  refine vv_bnd (fun b25 e26 => ?_)
  refine vv_callV (pc := 48) (rest := [LR v21, LR (some a0)]) (by rw [e26]; rfl) (fun r8 k8 e8 => zz_callIN X (m_X7_init (hlM X) _ _ _ _ e8) q679 q680 q159 q681 rfl nh_X7 rfl (by decide) (by decide) (Nat.le_of_ble_eq_true rfl) dX2_init_48) (fun v23 h24 => ?_)
  refine vv_putR (pc := 51) (ty9 := (.object "RenamedWords$Window")) (fin := true) X (fun _ z => by cases List.mem_singleton.mp z; exact fl_X2_38_1) (fun _ => rfl) (fun _ => (fun _ z => by cases List.mem_singleton.mp z; exact ⟨_, rfl, rfl⟩)) (by decide +kernel) rfl dX2_init_51 (fun h27 => ?_)
  refine vv_aload_n (pc := 54) X (kf := 0) (i := 0) rfl 0 rfl dX2_init_54 ?_
  refine vv_new (pc := 55) X tyX7 rfl in_X7 tyX7_ok q677 q678 q159 ndX7 (by decide) dX2_init_55 (fun v28 h29 => ?_)
  refine vv_dup (pc := 58) X rfl dX2_init_58 ?_
  refine vv_bnd (fun b32 e33 => ?_)
  refine vv_callV (pc := 59) (rest := [LR v28, LR (some a0)]) (by rw [e33]; rfl) (fun r8 k8 e8 => zz_callIN X (m_X7_init (hlM X) _ _ _ _ e8) q679 q680 q159 q681 rfl nh_X7 rfl (by decide) (by decide) (Nat.le_of_ble_eq_true rfl) dX2_init_59) (fun v30 h31 => ?_)
  refine vv_putR (pc := 62) (ty9 := (.object "RenamedWords$Window")) (fin := true) X (fun _ z => by cases List.mem_singleton.mp z; exact fl_X2_42_1) (fun _ => rfl) (fun _ => (fun _ z => by cases List.mem_singleton.mp z; exact ⟨_, rfl, rfl⟩)) (by decide +kernel) rfl dX2_init_62 (fun h34 => ?_)
  refine vv_aload_n (pc := 65) X (kf := 0) (i := 0) rfl 0 rfl dX2_init_65 ?_
  refine vv_new (pc := 66) X tyX8 rfl in_X8 tyX8_ok q693 q694 q160 ndX8 (by decide) dX2_init_66 (fun v35 h36 => ?_)
  refine vv_dup (pc := 69) X rfl dX2_init_69 ?_
  refine vv_bnd (fun b39 e40 => ?_)
  refine vv_callV (pc := 70) (rest := [LR v35, LR (some a0)]) (by rw [e40]; rfl) (fun r8 k8 e8 => zz_callIN X (m_X8_init (hlM X) _ _ _ _ e8) q695 q696 q160 q697 rfl nh_X8 rfl (by decide) (by decide) (Nat.le_of_ble_eq_true rfl) dX2_init_70) (fun v37 h38 => ?_)
  refine vv_putR (pc := 73) (ty9 := (.object "RenamedWords$Inventory")) (fin := true) X (fun _ z => by cases List.mem_singleton.mp z; exact fl_X2_48_1) (fun _ => rfl) (fun _ => (fun _ z => by cases List.mem_singleton.mp z; exact ⟨_, rfl, rfl⟩)) (by decide +kernel) rfl dX2_init_73 (fun h41 => ?_)
  refine vv_aload_n (pc := 76) X (kf := 0) (i := 0) rfl 0 rfl dX2_init_76 ?_
  refine vv_new (pc := 77) X tyX8 rfl in_X8 tyX8_ok q693 q694 q160 ndX8 (by decide) dX2_init_77 (fun v42 h43 => ?_)
  refine vv_dup (pc := 80) X rfl dX2_init_80 ?_
  refine vv_bnd (fun b46 e47 => ?_)
  refine vv_callV (pc := 81) (rest := [LR v42, LR (some a0)]) (by rw [e47]; rfl) (fun r8 k8 e8 => zz_callIN X (m_X8_init (hlM X) _ _ _ _ e8) q695 q696 q160 q697 rfl nh_X8 rfl (by decide) (by decide) (Nat.le_of_ble_eq_true rfl) dX2_init_81) (fun v44 h45 => ?_)
  refine vv_putR (pc := 84) (ty9 := (.object "RenamedWords$Inventory")) (fin := true) X (fun _ z => by cases List.mem_singleton.mp z; exact fl_X2_52_1) (fun _ => rfl) (fun _ => (fun _ z => by cases List.mem_singleton.mp z; exact ⟨_, rfl, rfl⟩)) (by decide +kernel) rfl dX2_init_84 (fun h48 => ?_)
  refine vv_aload_n (pc := 87) X (kf := 0) (i := 0) rfl 0 rfl dX2_init_87 ?_
  refine vv_aload_n (pc := 88) X (kf := 1) (i := 1) rfl 1 rfl dX2_init_88 ?_
  refine vv_putR (pc := 89) (ty9 := (.object "RenamedWords$Names")) (fin := true) X (fun _ z => by cases List.mem_singleton.mp z; exact fl_X2_55_1) (fun _ => rfl) (fun _ => (fun _ z => by cases List.mem_singleton.mp z; exact ⟨_, rfl, rfl⟩)) (by decide +kernel) rfl dX2_init_89 (fun h49 => ?_)
  exact vv_vreturn X rfl rfl dX2_init_92
theorem m_X2_init {l : Launch} (hl : l.stackTraces = false) {G : va_G} (a0 : Nat) (a1 : Option Nat) (h : HP) : ∀ r hf, f_X2_init a0 a1 h = some (r, hf) → Ct l yX2_init (ws_ yX2_init cX2_init 2 none) 3 84 G h [.ref a0, va_rf a1] (jV r) hf :=
  zz_ofW hl (by decide +kernel) (lv := [(0, LR (some a0)), (1, LR a1)]) (by simp [lv_args, lvL, lvV, zz_rfc, zz_rfs, zz_ci, zz_cr, zz_cj, zz_cf, zz_cd]) (by simp [lg_sl, zz_rfc, zz_ci, zz_cr, zz_cj, zz_cf, zz_cd]) (fun _ X => A_X2_init X a0 a1 h)
-- X1_plain RenamedWords.plain()LRenamedWords$Desk;
noncomputable def f_X1_plain (h : HP) : Option ((Option Nat) × HP) :=
  hb (nwO h (hp_n h + 2) 1 [.inr (.inl none), .inr (.inl none), .inr (.inl none), .inr (.inl none), .inr (.inl none), .inr (.inl none), .inr (.inl none), .inl 0, .inr (.inl none), .inr (.inl none)] 10) fun v1 h2 =>
  hb (nwO h2 (hp_n h2 + 2) 2 [.inr (.inl none), .inr (.inl none)] 2) fun v3 h4 =>
  (v3).bind fun b7 =>
  hb (f_X3_init b7 h4) fun _ h6 =>
  (v1).bind fun b11 =>
  hb (f_X2_init b11 v3 h6) fun _ h10 =>
  (rdR h10 v1 [1] 0).bind fun v13 =>
  (wrI h10 v13 [3] 3 1).bind fun h14 =>
  some (v1, h14)
theorem A_X1_plain {M : hp_M} {G : va_G} {h0 : HP} (X : hp_X M G h0 "RenamedWords" "plain" cX1_plain 1 (some (.object "RenamedWords$Desk")) [] 5 141) (h : HP) : vv M G h0 1 (hp_End M G h0) jR h 0 [] [] (f_X1_plain  h) := by
  unfold f_X1_plain
  refine vv_new (pc := 0) X tyX2 rfl in_X2 tyX2_ok q217 q218 q133 ndX2 (by decide) dX1_plain_0 (fun v1 h2 => ?_)
  refine vv_dup (pc := 3) X rfl dX1_plain_3 ?_
  refine vv_new (pc := 4) X tyX3 rfl in_X3 tyX3_ok q219 q220 q134 ndX3 (by decide) dX1_plain_4 (fun v3 h4 => ?_)
  refine vv_dup (pc := 7) X rfl dX1_plain_7 ?_
  refine vv_bnd (fun b7 e8 => ?_)
  refine vv_callV (pc := 8) (rest := [LR v3, LR v1, LR v1]) (by rw [e8]; rfl) (fun r8 k8 e8 => zz_callIN X (m_X3_init (hlM X) _ _ _ _ e8) q221 q222 q134 q223 rfl nh_X3 rfl (by decide) (by decide) (Nat.le_of_ble_eq_true rfl) dX1_plain_8) (fun v5 h6 => ?_)
  refine vv_bnd (fun b11 e12 => ?_)
  refine vv_callV (pc := 11) (rest := [LR v1]) (by rw [e12]; rfl) (fun r8 k8 e8 => zz_callI X (m_X2_init (hlM X) _ _ _ _ _ e8) q619 q620 q133 q621 rfl nh_X2 rfl (by decide) (by decide) (Nat.le_of_ble_eq_true rfl) dX1_plain_11) (fun v9 h10 => ?_)
  refine vv_astore_n (pc := 14) (lv' := [(0, LR v1)]) X (kf := 0) (i := 0) rfl (by decide) rfl dX1_plain_14 ?_
  refine vv_aload_n (pc := 15) X (kf := 0) (i := 0) rfl 0 rfl dX1_plain_15 ?_
  refine vv_getR (pc := 16) X (fun _ z => by cases List.mem_singleton.mp z; exact fl_X1_79_1) dX1_plain_16 (fun v13 => ?_)
  refine vv_iconst (pc := 19) X dX1_plain_19 ?_
  refine vv_putI (pc := 20) (fin := false) X (fun _ z => by cases List.mem_singleton.mp z; exact fl_X1_83_3) (fun z => nomatch z) (fun z => nomatch z) dX1_plain_20 (fun h14 => ?_)
  refine vv_aload_n (pc := 23) X (kf := 0) (i := 0) rfl 0 rfl dX1_plain_23 ?_
  exact vv_aretO X rfl rfl dX1_plain_24
theorem m_X1_plain {l : Launch} (hl : l.stackTraces = false) {G : va_G} (h : HP) : ∀ r hf, f_X1_plain  h = some (r, hf) → Ct l yX1_plain (ws_ yX1_plain cX1_plain 1 (some (.object "RenamedWords$Desk"))) 5 141 G h [] (jR r) hf :=
  zz_ofW hl (by decide +kernel) (lv := []) (by simp [lv_args, lvL, lvV, zz_rfc, zz_rfs, zz_ci, zz_cr, zz_cj, zz_cf, zz_cd]) (by simp [lg_sl, zz_rfc, zz_ci, zz_cr, zz_cj, zz_cf, zz_cd]) (fun _ X => A_X1_plain X  h)
-- J20_init java/util/AbstractSequentialList.<init>()V
noncomputable def f_J20_init (a0 : Nat) (h : HP) : Option ((Unit) × HP) :=
  hb (f_J3_init a0 h) fun _ h2 =>
  some ((), h2)
theorem A_J20_init {M : hp_M} {G : va_G} {h0 : HP} (X : hp_X M G h0 "java/util/AbstractSequentialList" "<init>" cJ20_init 1 none [] 3 84) (a0 : Nat) (h : HP) : vv M G h0 1 (hp_End M G h0) jV h 0 [(0, LR (some a0))] [] (f_J20_init a0 h) := by
  unfold f_J20_init
  refine vv_aload_n (pc := 0) X (kf := 0) (i := 0) rfl 0 rfl dJ20_init_0 ?_
  refine vv_callV (pc := 1) (rest := []) (by rfl) (fun r8 k8 e8 => zz_callI X (m_J3_init (hlM X) _ _ _ _ e8) q757 q263 q138 q264 rfl nh_J3 rfl (by decide) (by decide) (Nat.le_of_ble_eq_true rfl) dJ20_init_1) (fun v1 h2 => ?_)
  exact vv_vreturn X rfl rfl dJ20_init_4
theorem m_J20_init {l : Launch} (hl : l.stackTraces = false) {G : va_G} (a0 : Nat) (h : HP) : ∀ r hf, f_J20_init a0 h = some (r, hf) → Ct l yJ20_init (ws_ yJ20_init cJ20_init 1 none) 3 84 G h [.ref a0] (jV r) hf :=
  zz_ofW hl (by decide +kernel) (lv := [(0, LR (some a0))]) (by simp [lv_args, lvL, lvV, zz_rfc, zz_rfs, zz_ci, zz_cr, zz_cj, zz_cf, zz_cd]) (by simp [lg_sl, zz_rfc, zz_ci, zz_cr, zz_cj, zz_cf, zz_cd]) (fun _ X => A_J20_init X a0 h)
-- J21_init java/util/LinkedList.<init>()V
noncomputable def f_J21_init (a0 : Nat) (h : HP) : Option ((Unit) × HP) :=
  hb (f_J20_init a0 h) fun _ h2 =>
  (wrI h2 (some a0) [28] 1 0).bind fun h3 =>
  some ((), h3)
theorem A_J21_init {M : hp_M} {G : va_G} {h0 : HP} (X : hp_X M G h0 "java/util/LinkedList" "<init>" cJ21_init 1 none [] 4 112) (a0 : Nat) (h : HP) : vv M G h0 1 (hp_End M G h0) jV h 0 [(0, LR (some a0))] [] (f_J21_init a0 h) := by
  unfold f_J21_init
  refine vv_aload_n (pc := 0) X (kf := 0) (i := 0) rfl 0 rfl dJ21_init_0 ?_
  refine vv_callV (pc := 1) (rest := []) (by rfl) (fun r8 k8 e8 => zz_callI X (m_J20_init (hlM X) _ _ _ _ e8) q754 q755 q161 q756 rfl nh_J20 rfl (by decide) (by decide) (Nat.le_of_ble_eq_true rfl) dJ21_init_1) (fun v1 h2 => ?_)
  refine vv_aload_n (pc := 4) X (kf := 0) (i := 0) rfl 0 rfl dJ21_init_4 ?_
  refine vv_iconst (pc := 5) X dJ21_init_5 ?_
  refine vv_putI (pc := 6) (fin := false) X (fun _ z => by cases List.mem_singleton.mp z; exact fl_J21_7_28) (fun z => nomatch z) (fun z => nomatch z) dJ21_init_6 (fun h3 => ?_)
  exact vv_vreturn X rfl rfl dJ21_init_9
theorem m_J21_init {l : Launch} (hl : l.stackTraces = false) {G : va_G} (a0 : Nat) (h : HP) : ∀ r hf, f_J21_init a0 h = some (r, hf) → Ct l yJ21_init (ws_ yJ21_init cJ21_init 1 none) 4 112 G h [.ref a0] (jV r) hf :=
  zz_ofW hl (by decide +kernel) (lv := [(0, LR (some a0))]) (by simp [lv_args, lvL, lvV, zz_rfc, zz_rfs, zz_ci, zz_cr, zz_cj, zz_cf, zz_cd]) (by simp [lg_sl, zz_rfc, zz_ci, zz_cr, zz_cj, zz_cf, zz_cd]) (fun _ X => A_J21_init X a0 h)
-- J22_init java/util/ArrayDeque.<init>()V
noncomputable def f_J22_init (a0 : Nat) (h : HP) : Option ((Unit) × HP) :=
  hb (f_J2_init a0 h) fun _ h2 =>
  hb (nwR h2 (tgR h2 (some a0)) "java/lang/Object" 17) fun v3 h4 =>
  (wrR h4 (some a0) [29] 0 v3).bind fun h5 =>
  some ((), h5)
theorem A_J22_init {M : hp_M} {G : va_G} {h0 : HP} (X : hp_X M G h0 "java/util/ArrayDeque" "<init>" cJ22_init 1 none [] 2 56) (a0 : Nat) (h : HP) : vv M G h0 1 (hp_End M G h0) jV h 0 [(0, LR (some a0))] [] (f_J22_init a0 h) := by
  unfold f_J22_init
  refine vv_aload_n (pc := 0) X (kf := 0) (i := 0) rfl 0 rfl dJ22_init_0 ?_
  refine vv_callV (pc := 1) (rest := []) (by rfl) (fun r8 k8 e8 => zz_callI X (m_J2_init (hlM X) _ _ _ _ e8) q775 q266 q137 q267 rfl nh_J2 rfl (by decide) (by decide) (Nat.le_of_ble_eq_true rfl) dJ22_init_1) (fun v1 h2 => ?_)
  refine vv_aload_n (pc := 4) X (kf := 0) (i := 0) rfl 0 rfl dJ22_init_4 ?_
  refine vv_bipush (pc := 5) X (by decide) dJ22_init_5 ?_
  refine vv_newref (pc := 7) X q776 ao_java_lang_Object dJ22_init_7 (fun v3 h4 => ?_)
  refine vv_putR (pc := 10) (ty9 := (.array (.object "java/lang/Object"))) (fin := false) X (fun _ z => by cases List.mem_singleton.mp z; exact fl_J22_3_29) (fun z => nomatch z) (fun z => nomatch z) (by decide +kernel) rfl dJ22_init_10 (fun h5 => ?_)
  exact vv_vreturn X rfl rfl dJ22_init_13
theorem m_J22_init {l : Launch} (hl : l.stackTraces = false) {G : va_G} (a0 : Nat) (h : HP) : ∀ r hf, f_J22_init a0 h = some (r, hf) → Ct l yJ22_init (ws_ yJ22_init cJ22_init 1 none) 2 56 G h [.ref a0] (jV r) hf :=
  zz_ofW hl (by decide +kernel) (lv := [(0, LR (some a0))]) (by simp [lv_args, lvL, lvV, zz_rfc, zz_rfs, zz_ci, zz_cr, zz_cj, zz_cf, zz_cd]) (by simp [lg_sl, zz_rfc, zz_ci, zz_cr, zz_cj, zz_cf, zz_cd]) (fun _ X => A_J22_init X a0 h)
-- X1_init RenamedWords.<init>()V
noncomputable def f_X1_init (a0 : Nat) (h : HP) : Option ((Unit) × HP) :=
  hb (f_X1_plain  h) fun v1 h2 =>
  (wrR h2 (some a0) [0] 0 v1).bind fun h3 =>
  hb (nwO h3 (tgR h3 (some a0)) 28 [.inl 0, .inl 0, .inr (.inl none), .inr (.inl none)] 4) fun v4 h5 =>
  (v4).bind fun b8 =>
  hb (f_J21_init b8 h5) fun _ h7 =>
  (wrR h7 (some a0) [0] 1 v4).bind fun h10 =>
  hb (nwO h10 (tgR h10 (some a0)) 29 [.inr (.inl none), .inl 0, .inl 0] 3) fun v11 h12 =>
  (v11).bind fun b15 =>
  hb (f_J22_init b15 h12) fun _ h14 =>
  (wrR h14 (some a0) [0] 2 v11).bind fun h17 =>
  hb (nwR h17 (tgR h17 (some a0)) "RenamedWords$Desk" 2) fun v18 h19 =>
  (wrR h19 (some a0) [0] 3 v18).bind fun h20 =>
  hb (nwI h20 (tgR h20 (some a0)) .byte 600) fun v21 h22 =>
  (wrR h22 (some a0) [0] 4 v21).bind fun h23 =>
  (wrI h23 (some a0) [0] 6 (-1)).bind fun h24 =>
  (wrR h24 (some a0) [0] 8 (hp_c h24 2)).bind fun h25 =>
  some ((), h25)
theorem A_X1_init {M : hp_M} {G : va_G} {h0 : HP} (X : hp_X M G h0 "RenamedWords" "<init>" cX1_init 1 none [] 6 169) (a0 : Nat) (h : HP) : vv M G h0 1 (hp_End M G h0) jV h 0 [(0, LR (some a0))] [] (f_X1_init a0 h) := by
  unfold f_X1_init
  refine vv_aload_n (pc := 0) X (kf := 0) (i := 0) rfl 0 rfl dX1_init_0 ?_
  refine vv_objInit (pc := 1) X rfl q211 q212 q213 (by decide) (by decide) (Nat.le_of_ble_eq_true rfl) dX1_init_1 ?_
  refine vv_aload_n (pc := 4) X (kf := 0) (i := 0) rfl 0 rfl dX1_init_4 ?_
  refine vv_callR (pc := 5) (rest := [LR (some a0)]) (by rfl) (fun r8 k8 e8 => zz_callS X (m_X1_plain (hlM X) _ _ _ e8) q214 q215 q132 q216 nh_X1 rfl (by decide) (by decide) (Nat.le_of_ble_eq_true rfl) dX1_init_5) (fun v1 h2 => ?_)
  refine vv_putR (pc := 8) (ty9 := (.object "RenamedWords$Desk")) (fin := false) X (fun _ z => by cases List.mem_singleton.mp z; exact fl_X1_35_0) (fun z => nomatch z) (fun z => nomatch z) (by decide +kernel) rfl dX1_init_8 (fun h3 => ?_)
  refine vv_aload_n (pc := 11) X (kf := 0) (i := 0) rfl 0 rfl dX1_init_11 ?_
  refine vv_new (pc := 12) X tyJ21 rfl in_J21 tyJ21_ok q749 q750 q162 ndJ21 (by decide) dX1_init_12 (fun v4 h5 => ?_)
  refine vv_dup (pc := 15) X rfl dX1_init_15 ?_
  refine vv_bnd (fun b8 e9 => ?_)
  refine vv_callV (pc := 16) (rest := [LR v4, LR (some a0)]) (by rw [e9]; rfl) (fun r8 k8 e8 => zz_callI X (m_J21_init (hlM X) _ _ _ _ e8) q751 q752 q162 q753 rfl nh_J21 rfl (by decide) (by decide) (Nat.le_of_ble_eq_true rfl) dX1_init_16) (fun v6 h7 => ?_)
  refine vv_putR (pc := 19) (ty9 := (.object "java/util/LinkedList")) (fin := true) X (fun _ z => by cases List.mem_singleton.mp z; exact fl_X1_42_0) (fun _ => rfl) (fun _ => (fun _ z => by cases List.mem_singleton.mp z; exact ⟨_, rfl, rfl⟩)) (by decide +kernel) rfl dX1_init_19 (fun h10 => ?_)
  refine vv_aload_n (pc := 22) X (kf := 0) (i := 0) rfl 0 rfl dX1_init_22 ?_
  refine vv_new (pc := 23) X tyJ22 rfl in_J22 tyJ22_ok q770 q771 q163 ndJ22 (by decide) dX1_init_23 (fun v11 h12 => ?_)
  refine vv_dup (pc := 26) X rfl dX1_init_26 ?_
  refine vv_bnd (fun b15 e16 => ?_)
  refine vv_callV (pc := 27) (rest := [LR v11, LR (some a0)]) (by rw [e16]; rfl) (fun r8 k8 e8 => zz_callI X (m_J22_init (hlM X) _ _ _ _ e8) q772 q773 q163 q774 rfl nh_J22 rfl (by decide) (by decide) (Nat.le_of_ble_eq_true rfl) dX1_init_27) (fun v13 h14 => ?_)
  refine vv_putR (pc := 30) (ty9 := (.object "java/util/ArrayDeque")) (fin := true) X (fun _ z => by cases List.mem_singleton.mp z; exact fl_X1_49_0) (fun _ => rfl) (fun _ => (fun _ z => by cases List.mem_singleton.mp z; exact ⟨_, rfl, rfl⟩)) (by decide +kernel) rfl dX1_init_30 (fun h17 => ?_)
  refine vv_aload_n (pc := 33) X (kf := 0) (i := 0) rfl 0 rfl dX1_init_33 ?_
  refine vv_iconst (pc := 34) X dX1_init_34 ?_
  refine vv_newref (pc := 35) X q217 ao_RenamedWords_Desk dX1_init_35 (fun v18 h19 => ?_)
  refine vv_putR (pc := 38) (ty9 := (.array (.object "RenamedWords$Desk"))) (fin := true) X (fun _ z => by cases List.mem_singleton.mp z; exact fl_X1_55_0) (fun _ => rfl) (fun _ => (fun _ z => by cases List.mem_singleton.mp z; exact ⟨_, rfl, rfl⟩)) (by decide +kernel) rfl dX1_init_38 (fun h20 => ?_)
  refine vv_aload_n (pc := 41) X (kf := 0) (i := 0) rfl 0 rfl dX1_init_41 ?_
  refine vv_sipush (pc := 42) X (by decide) dX1_init_42 ?_
  refine vv_newbyte (pc := 45) X dX1_init_45 (fun v21 h22 => ?_)
  refine vv_putR (pc := 47) (ty9 := (.array .byte)) (fin := true) X (fun _ z => by cases List.mem_singleton.mp z; exact fl_X1_59_0) (fun _ => rfl) (fun _ => (fun _ z => by cases List.mem_singleton.mp z; exact ⟨_, rfl, rfl⟩)) (by decide +kernel) rfl dX1_init_47 (fun h23 => ?_)
  refine vv_aload_n (pc := 50) X (kf := 0) (i := 0) rfl 0 rfl dX1_init_50 ?_
  refine vv_iconst (pc := 51) X dX1_init_51 ?_
  refine vv_putI (pc := 52) (fin := false) X (fun _ z => by cases List.mem_singleton.mp z; exact fl_X1_63_0) (fun z => nomatch z) (fun z => nomatch z) dX1_init_52 (fun h24 => ?_)
  refine vv_aload_n (pc := 55) X (kf := 0) (i := 0) rfl 0 rfl dX1_init_55 ?_
  refine vv_ldcS (pc := 56) (i := 2) X (List.mem_of_getElem? (i := 2) rfl) dX1_init_56 ?_
  refine vv_putR (pc := 58) (ty9 := (.object "java/lang/String")) (fin := false) X (fun _ z => by cases List.mem_singleton.mp z; exact fl_X1_69_0) (fun z => nomatch z) (fun z => nomatch z) (by decide +kernel) rfl dX1_init_58 (fun h25 => ?_)
  exact vv_vreturn X rfl rfl dX1_init_61
theorem m_X1_init {l : Launch} (hl : l.stackTraces = false) {G : va_G} (a0 : Nat) (h : HP) : ∀ r hf, f_X1_init a0 h = some (r, hf) → Ct l yX1_init (ws_ yX1_init cX1_init 1 none) 6 169 G h [.ref a0] (jV r) hf :=
  zz_ofW hl (by decide +kernel) (lv := [(0, LR (some a0))]) (by simp [lv_args, lvL, lvV, zz_rfc, zz_rfs, zz_ci, zz_cr, zz_cj, zz_cf, zz_cd]) (by simp [lg_sl, zz_rfc, zz_ci, zz_cr, zz_cj, zz_cf, zz_cd]) (fun _ X => A_X1_init X a0 h)
-- X9_init RenamedWordsModel.<init>()V
noncomputable def f_X9_init (a0 : Nat) (h : HP) : Option ((Unit) × HP) :=
  hb (nwI h (tgR h (some a0)) .int 576) fun v1 h2 =>
  (wrR h2 (some a0) [7] 0 v1).bind fun h3 =>
  hb (nwI h3 (tgR h3 (some a0)) .int 576) fun v4 h5 =>
  (wrR h5 (some a0) [7] 1 v4).bind fun h6 =>
  hb (nwI h6 (tgR h6 (some a0)) .int 576) fun v7 h8 =>
  (wrR h8 (some a0) [7] 2 v7).bind fun h9 =>
  hb (nwI h9 (tgR h9 (some a0)) .int 4608) fun v10 h11 =>
  (wrR h11 (some a0) [7] 3 v10).bind fun h12 =>
  hb (nwI h12 (tgR h12 (some a0)) .int 1152) fun v13 h14 =>
  (wrR h14 (some a0) [7] 4 v13).bind fun h15 =>
  hb (nwI h15 (tgR h15 (some a0)) .boolean 2) fun v16 h17 =>
  (wrR h17 (some a0) [7] 5 v16).bind fun h18 =>
  hb (nwI h18 (tgR h18 (some a0)) .int 26) fun v19 h20 =>
  (wrR h20 (some a0) [7] 8 v19).bind fun h21 =>
  hb (nwI h21 (tgR h21 (some a0)) .int 26) fun v22 h23 =>
  (wrR h23 (some a0) [7] 9 v22).bind fun h24 =>
  hb (nwI h24 (tgR h24 (some a0)) .int 21) fun v25 h26 =>
  (wrR h26 (some a0) [7] 10 v25).bind fun h27 =>
  hb (nwI h27 (tgR h27 (some a0)) .int 600) fun v28 h29 =>
  (wrR h29 (some a0) [7] 11 v28).bind fun h30 =>
  (wrI h30 (some a0) [7] 19 (-1)).bind fun h31 =>
  hb (nwI h31 (tgR h31 (some a0)) .int 64) fun v32 h33 =>
  (wrR h33 (some a0) [7] 22 v32).bind fun h34 =>
  hb (nwI h34 (tgR h34 (some a0)) .int 64) fun v35 h36 =>
  (wrR h36 (some a0) [7] 23 v35).bind fun h37 =>
  hb (nwI h37 (tgR h37 (some a0)) .int 64) fun v38 h39 =>
  (wrR h39 (some a0) [7] 24 v38).bind fun h40 =>
  hb (nwI h40 (tgR h40 (some a0)) .int 64) fun v41 h42 =>
  (wrR h42 (some a0) [7] 25 v41).bind fun h43 =>
  hb (nwI h43 (tgR h43 (some a0)) .int 64) fun v44 h45 =>
  (wrR h45 (some a0) [7] 26 v44).bind fun h46 =>
  hb (nwI h46 (tgR h46 (some a0)) .int 2) fun v47 h48 =>
  (wrR h48 (some a0) [7] 27 v47).bind fun h49 =>
  hb (nwI h49 (tgR h49 (some a0)) .int 2) fun v50 h51 =>
  (wrR h51 (some a0) [7] 28 v50).bind fun h52 =>
  hb (nwI h52 (tgR h52 (some a0)) .int 1200) fun v53 h54 =>
  (wrR h54 (some a0) [7] 32 v53).bind fun h55 =>
  (rdR h55 (some a0) [7] 0).bind fun v56 =>
  (astI h55 .int v56 1 1).bind fun h57 =>
  some ((), h57)
theorem A_X9_init {M : hp_M} {G : va_G} {h0 : HP} (X : hp_X M G h0 "RenamedWordsModel" "<init>" cX9_init 1 none [] 1 28) (a0 : Nat) (h : HP) : vv M G h0 1 (hp_End M G h0) jV h 0 [(0, LR (some a0))] [] (f_X9_init a0 h) := by
  unfold f_X9_init
  refine vv_aload_n (pc := 0) X (kf := 0) (i := 0) rfl 0 rfl dX9_init_0 ?_
  refine vv_objInit (pc := 1) X rfl q3443 q212 q213 (by decide) (by decide) (Nat.le_of_ble_eq_true rfl) dX9_init_1 ?_
  refine vv_aload_n (pc := 4) X (kf := 0) (i := 0) rfl 0 rfl dX9_init_4 ?_
  refine vv_sipush (pc := 5) X (by decide) dX9_init_5 ?_
  refine vv_newint (pc := 8) X dX9_init_8 (fun v1 h2 => ?_)
  refine vv_putR (pc := 10) (ty9 := (.array .int)) (fin := true) X (fun _ z => by cases List.mem_singleton.mp z; exact fl_X9_9_7) (fun _ => rfl) (fun _ => (fun _ z => by cases List.mem_singleton.mp z; exact ⟨_, rfl, rfl⟩)) (by decide +kernel) rfl dX9_init_10 (fun h3 => ?_)
  refine vv_aload_n (pc := 13) X (kf := 0) (i := 0) rfl 0 rfl dX9_init_13 ?_
  refine vv_sipush (pc := 14) X (by decide) dX9_init_14 ?_
  refine vv_newint (pc := 17) X dX9_init_17 (fun v4 h5 => ?_)
  refine vv_putR (pc := 19) (ty9 := (.array .int)) (fin := true) X (fun _ z => by cases List.mem_singleton.mp z; exact fl_X9_13_7) (fun _ => rfl) (fun _ => (fun _ z => by cases List.mem_singleton.mp z; exact ⟨_, rfl, rfl⟩)) (by decide +kernel) rfl dX9_init_19 (fun h6 => ?_)
  refine vv_aload_n (pc := 22) X (kf := 0) (i := 0) rfl 0 rfl dX9_init_22 ?_
  refine vv_sipush (pc := 23) X (by decide) dX9_init_23 ?_
  refine vv_newint (pc := 26) X dX9_init_26 (fun v7 h8 => ?_)
  refine vv_putR (pc := 28) (ty9 := (.array .int)) (fin := true) X (fun _ z => by cases List.mem_singleton.mp z; exact fl_X9_16_7) (fun _ => rfl) (fun _ => (fun _ z => by cases List.mem_singleton.mp z; exact ⟨_, rfl, rfl⟩)) (by decide +kernel) rfl dX9_init_28 (fun h9 => ?_)
  refine vv_aload_n (pc := 31) X (kf := 0) (i := 0) rfl 0 rfl dX9_init_31 ?_
  refine vv_sipush (pc := 32) X (by decide) dX9_init_32 ?_
  refine vv_newint (pc := 35) X dX9_init_35 (fun v10 h11 => ?_)
  refine vv_putR (pc := 37) (ty9 := (.array .int)) (fin := true) X (fun _ z => by cases List.mem_singleton.mp z; exact fl_X9_19_7) (fun _ => rfl) (fun _ => (fun _ z => by cases List.mem_singleton.mp z; exact ⟨_, rfl, rfl⟩)) (by decide +kernel) rfl dX9_init_37 (fun h12 => ?_)
  refine vv_aload_n (pc := 40) X (kf := 0) (i := 0) rfl 0 rfl dX9_init_40 ?_
  refine vv_sipush (pc := 41) X (by decide) dX9_init_41 ?_
  refine vv_newint (pc := 44) X dX9_init_44 (fun v13 h14 => ?_)
  refine vv_putR (pc := 46) (ty9 := (.array .int)) (fin := true) X (fun _ z => by cases List.mem_singleton.mp z; exact fl_X9_22_7) (fun _ => rfl) (fun _ => (fun _ z => by cases List.mem_singleton.mp z; exact ⟨_, rfl, rfl⟩)) (by decide +kernel) rfl dX9_init_46 (fun h15 => ?_)
  refine vv_aload_n (pc := 49) X (kf := 0) (i := 0) rfl 0 rfl dX9_init_49 ?_
  refine vv_iconst (pc := 50) X dX9_init_50 ?_
  refine vv_newbool (pc := 51) X dX9_init_51 (fun v16 h17 => ?_)
  refine vv_putR (pc := 53) (ty9 := (.array .boolean)) (fin := true) X (fun _ z => by cases List.mem_singleton.mp z; exact fl_X9_25_7) (fun _ => rfl) (fun _ => (fun _ z => by cases List.mem_singleton.mp z; exact ⟨_, rfl, rfl⟩)) (by decide +kernel) rfl dX9_init_53 (fun h18 => ?_)
  refine vv_aload_n (pc := 56) X (kf := 0) (i := 0) rfl 0 rfl dX9_init_56 ?_
  refine vv_bipush (pc := 57) X (by decide) dX9_init_57 ?_
  refine vv_newint (pc := 59) X dX9_init_59 (fun v19 h20 => ?_)
  refine vv_putR (pc := 61) (ty9 := (.array .int)) (fin := true) X (fun _ z => by cases List.mem_singleton.mp z; exact fl_X9_29_7) (fun _ => rfl) (fun _ => (fun _ z => by cases List.mem_singleton.mp z; exact ⟨_, rfl, rfl⟩)) (by decide +kernel) rfl dX9_init_61 (fun h21 => ?_)
  refine vv_aload_n (pc := 64) X (kf := 0) (i := 0) rfl 0 rfl dX9_init_64 ?_
  refine vv_bipush (pc := 65) X (by decide) dX9_init_65 ?_
  refine vv_newint (pc := 67) X dX9_init_67 (fun v22 h23 => ?_)
  refine vv_putR (pc := 69) (ty9 := (.array .int)) (fin := true) X (fun _ z => by cases List.mem_singleton.mp z; exact fl_X9_32_7) (fun _ => rfl) (fun _ => (fun _ z => by cases List.mem_singleton.mp z; exact ⟨_, rfl, rfl⟩)) (by decide +kernel) rfl dX9_init_69 (fun h24 => ?_)
  refine vv_aload_n (pc := 72) X (kf := 0) (i := 0) rfl 0 rfl dX9_init_72 ?_
  refine vv_bipush (pc := 73) X (by decide) dX9_init_73 ?_
  refine vv_newint (pc := 75) X dX9_init_75 (fun v25 h26 => ?_)
  refine vv_putR (pc := 77) (ty9 := (.array .int)) (fin := true) X (fun _ z => by cases List.mem_singleton.mp z; exact fl_X9_35_7) (fun _ => rfl) (fun _ => (fun _ z => by cases List.mem_singleton.mp z; exact ⟨_, rfl, rfl⟩)) (by decide +kernel) rfl dX9_init_77 (fun h27 => ?_)
  refine vv_aload_n (pc := 80) X (kf := 0) (i := 0) rfl 0 rfl dX9_init_80 ?_
  refine vv_sipush (pc := 81) X (by decide) dX9_init_81 ?_
  refine vv_newint (pc := 84) X dX9_init_84 (fun v28 h29 => ?_)
  refine vv_putR (pc := 86) (ty9 := (.array .int)) (fin := true) X (fun _ z => by cases List.mem_singleton.mp z; exact fl_X9_38_7) (fun _ => rfl) (fun _ => (fun _ z => by cases List.mem_singleton.mp z; exact ⟨_, rfl, rfl⟩)) (by decide +kernel) rfl dX9_init_86 (fun h30 => ?_)
  refine vv_aload_n (pc := 89) X (kf := 0) (i := 0) rfl 0 rfl dX9_init_89 ?_
  refine vv_iconst (pc := 90) X dX9_init_90 ?_
  refine vv_putI (pc := 91) (fin := false) X (fun _ z => by cases List.mem_singleton.mp z; exact fl_X9_41_7) (fun z => nomatch z) (fun z => nomatch z) dX9_init_91 (fun h31 => ?_)
  refine vv_aload_n (pc := 94) X (kf := 0) (i := 0) rfl 0 rfl dX9_init_94 ?_
  refine vv_bipush (pc := 95) X (by decide) dX9_init_95 ?_
  refine vv_newint (pc := 97) X dX9_init_97 (fun v32 h33 => ?_)
  refine vv_putR (pc := 99) (ty9 := (.array .int)) (fin := true) X (fun _ z => by cases List.mem_singleton.mp z; exact fl_X9_45_7) (fun _ => rfl) (fun _ => (fun _ z => by cases List.mem_singleton.mp z; exact ⟨_, rfl, rfl⟩)) (by decide +kernel) rfl dX9_init_99 (fun h34 => ?_)
  refine vv_aload_n (pc := 102) X (kf := 0) (i := 0) rfl 0 rfl dX9_init_102 ?_
  refine vv_bipush (pc := 103) X (by decide) dX9_init_103 ?_
  refine vv_newint (pc := 105) X dX9_init_105 (fun v35 h36 => ?_)
  refine vv_putR (pc := 107) (ty9 := (.array .int)) (fin := true) X (fun _ z => by cases List.mem_singleton.mp z; exact fl_X9_48_7) (fun _ => rfl) (fun _ => (fun _ z => by cases List.mem_singleton.mp z; exact ⟨_, rfl, rfl⟩)) (by decide +kernel) rfl dX9_init_107 (fun h37 => ?_)
  refine vv_aload_n (pc := 110) X (kf := 0) (i := 0) rfl 0 rfl dX9_init_110 ?_
  refine vv_bipush (pc := 111) X (by decide) dX9_init_111 ?_
  refine vv_newint (pc := 113) X dX9_init_113 (fun v38 h39 => ?_)
  refine vv_putR (pc := 115) (ty9 := (.array .int)) (fin := true) X (fun _ z => by cases List.mem_singleton.mp z; exact fl_X9_51_7) (fun _ => rfl) (fun _ => (fun _ z => by cases List.mem_singleton.mp z; exact ⟨_, rfl, rfl⟩)) (by decide +kernel) rfl dX9_init_115 (fun h40 => ?_)
  refine vv_aload_n (pc := 118) X (kf := 0) (i := 0) rfl 0 rfl dX9_init_118 ?_
  refine vv_bipush (pc := 119) X (by decide) dX9_init_119 ?_
  refine vv_newint (pc := 121) X dX9_init_121 (fun v41 h42 => ?_)
  refine vv_putR (pc := 123) (ty9 := (.array .int)) (fin := true) X (fun _ z => by cases List.mem_singleton.mp z; exact fl_X9_54_7) (fun _ => rfl) (fun _ => (fun _ z => by cases List.mem_singleton.mp z; exact ⟨_, rfl, rfl⟩)) (by decide +kernel) rfl dX9_init_123 (fun h43 => ?_)
  refine vv_aload_n (pc := 126) X (kf := 0) (i := 0) rfl 0 rfl dX9_init_126 ?_
  refine vv_bipush (pc := 127) X (by decide) dX9_init_127 ?_
  refine vv_newint (pc := 129) X dX9_init_129 (fun v44 h45 => ?_)
  refine vv_putR (pc := 131) (ty9 := (.array .int)) (fin := true) X (fun _ z => by cases List.mem_singleton.mp z; exact fl_X9_57_7) (fun _ => rfl) (fun _ => (fun _ z => by cases List.mem_singleton.mp z; exact ⟨_, rfl, rfl⟩)) (by decide +kernel) rfl dX9_init_131 (fun h46 => ?_)
  refine vv_aload_n (pc := 134) X (kf := 0) (i := 0) rfl 0 rfl dX9_init_134 ?_
  refine vv_iconst (pc := 135) X dX9_init_135 ?_
  refine vv_newint (pc := 136) X dX9_init_136 (fun v47 h48 => ?_)
  refine vv_putR (pc := 138) (ty9 := (.array .int)) (fin := true) X (fun _ z => by cases List.mem_singleton.mp z; exact fl_X9_60_7) (fun _ => rfl) (fun _ => (fun _ z => by cases List.mem_singleton.mp z; exact ⟨_, rfl, rfl⟩)) (by decide +kernel) rfl dX9_init_138 (fun h49 => ?_)
  refine vv_aload_n (pc := 141) X (kf := 0) (i := 0) rfl 0 rfl dX9_init_141 ?_
  refine vv_iconst (pc := 142) X dX9_init_142 ?_
  refine vv_newint (pc := 143) X dX9_init_143 (fun v50 h51 => ?_)
  refine vv_putR (pc := 145) (ty9 := (.array .int)) (fin := true) X (fun _ z => by cases List.mem_singleton.mp z; exact fl_X9_63_7) (fun _ => rfl) (fun _ => (fun _ z => by cases List.mem_singleton.mp z; exact ⟨_, rfl, rfl⟩)) (by decide +kernel) rfl dX9_init_145 (fun h52 => ?_)
  refine vv_aload_n (pc := 148) X (kf := 0) (i := 0) rfl 0 rfl dX9_init_148 ?_
  refine vv_sipush (pc := 149) X (by decide) dX9_init_149 ?_
  refine vv_newint (pc := 152) X dX9_init_152 (fun v53 h54 => ?_)
  refine vv_putR (pc := 154) (ty9 := (.array .int)) (fin := true) X (fun _ z => by cases List.mem_singleton.mp z; exact fl_X9_66_7) (fun _ => rfl) (fun _ => (fun _ z => by cases List.mem_singleton.mp z; exact ⟨_, rfl, rfl⟩)) (by decide +kernel) rfl dX9_init_154 (fun h55 => ?_)
  refine vv_aload_n (pc := 157) X (kf := 0) (i := 0) rfl 0 rfl dX9_init_157 ?_
  refine vv_getR (pc := 158) X (fun _ z => by cases List.mem_singleton.mp z; exact fl_X9_9_7) dX9_init_158 (fun v56 => ?_)
  refine vv_iconst (pc := 161) X dX9_init_161 ?_
  refine vv_iconst (pc := 162) X dX9_init_162 ?_
  refine vv_iastore (pc := 163) X dX9_init_163 (fun h57 => ?_)
  exact vv_vreturn X rfl rfl dX9_init_164
theorem m_X9_init {l : Launch} (hl : l.stackTraces = false) {G : va_G} (a0 : Nat) (h : HP) : ∀ r hf, f_X9_init a0 h = some (r, hf) → Ct l yX9_init (ws_ yX9_init cX9_init 1 none) 1 28 G h [.ref a0] (jV r) hf :=
  zz_ofW hl (by decide +kernel) (lv := [(0, LR (some a0))]) (by simp [lv_args, lvL, lvV, zz_rfc, zz_rfs, zz_ci, zz_cr, zz_cj, zz_cf, zz_cd]) (by simp [lg_sl, zz_rfc, zz_ci, zz_cr, zz_cj, zz_cf, zz_cd]) (fun _ X => A_X9_init X a0 h)
-- X1_one RenamedWords.one(Z)I
noncomputable def b_X1_one_9 (s0 : Int) (h : HP) : Option ((Int) × HP) :=
  some (s0, h)
theorem B_X1_one_9 {M : hp_M} {G : va_G} {h0 : HP} (X : hp_X M G h0 "RenamedWords" "one" cX1_one 1 (some .int) [] 0 0) (s0 : Int) (h : HP) : vv M G h0 1 (hp_End M G h0) jI h 9 [] [LI s0] (b_X1_one_9 s0 h) := by
  unfold b_X1_one_9
  exact vv_iretI X rfl rfl dX1_one_9
noncomputable def f_X1_one (a1 : Int) (h : HP) : Option ((Int) × HP) :=
  iEQ a1 0
    (b_X1_one_9 0 h)
    (b_X1_one_9 1 h)
theorem A_X1_one {M : hp_M} {G : va_G} {h0 : HP} (X : hp_X M G h0 "RenamedWords" "one" cX1_one 1 (some .int) [] 0 0) (a1 : Int) (h : HP) : vv M G h0 1 (hp_End M G h0) jI h 0 [(0, LI a1)] [] (f_X1_one a1 h) := by
  unfold f_X1_one
  refine vv_iload_n (pc := 0) X (kf := 0) (i := 0) rfl 0 rfl dX1_one_0 ?_
  refine vv_if_eq (pc := 1) (tgt := 8) X dX1_one_1 rfl ?_ ?_
  · refine vv_iconst (pc := 8) X dX1_one_8 ?_
    exact vv_sub [] (by rfl) (B_X1_one_9 X _ _)
  · refine vv_iconst (pc := 4) X dX1_one_4 ?_
    refine vv_goto (pc := 5) (tgt := 9) X dX1_one_5 rfl ?_
    exact vv_sub [] (by rfl) (B_X1_one_9 X _ _)
theorem m_X1_one {l : Launch} (hl : l.stackTraces = false) {G : va_G} (a1 : Int) (h : HP) : ∀ r hf, f_X1_one a1 h = some (r, hf) → Ct l yX1_one (ws_ yX1_one cX1_one 1 (some .int)) 0 0 G h [.int (iI a1)] (jI r) hf :=
  zz_ofW hl (by decide +kernel) (lv := [(0, LI a1)]) (by simp [lv_args, lvL, lvV, zz_rfc, zz_rfs, zz_ci, zz_cr, zz_cj, zz_cf, zz_cd]) (by simp [lg_sl, zz_rfc, zz_ci, zz_cr, zz_cj, zz_cf, zz_cd]) (fun _ X => A_X1_one X a1 h)
