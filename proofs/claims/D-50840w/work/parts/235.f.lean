/-! STAGE 1c: functions and contracts (printed by gen/mkfuncs.py). -/
set_option maxRecDepth 100000
set_option linter.unusedVariables false
-- J40_set java/util/BitSet.set(II)V
noncomputable def b_J40_set_119 (x0 : Option Nat) (h : HP) : Option ((Unit) × HP) :=
  (rcv h x0 [33]).bind fun b19 =>
  hb (f_J40_checkInvariants b19 h) fun _ h18 =>
  some ((), h18)
theorem B_J40_set_119 {M : hp_M} {G : va_G} {h0 : HP} (X : hp_X M G h0 "java/util/BitSet" "set" cJ40_set 10 none [] 4 190) (x0 : Option Nat) (h : HP) : vv M G h0 10 (hp_End M G h0) jV h 119 [(0, LR x0)] [] (b_J40_set_119 x0 h) := by
  unfold b_J40_set_119
  refine vv_aload_n (pc := 119) X (kf := 0) (i := 0) rfl 0 rfl dJ40_set_119 ?_
  refine vv_rcv (fun b19 t9 c9 fs9 e20 g9 k9 => ?_)
  cases List.mem_singleton.mp k9
  refine vv_callV (pc := 120) (rest := []) (by rw [e20]; rfl) (fun r8 k8 e8 => zz_callV X (m_J40_checkInvariants (hlM X) _ _ _ _ e8) g9 rfl rfl q2918 q2920 qs42 q204 q2921 nh_J40 rfl (by decide) (by decide) (Nat.le_of_ble_eq_true rfl) dJ40_set_120) (fun v17 h18 => ?_)
  exact vv_vreturn X rfl rfl dJ40_set_123
noncomputable def c_J40_set_84 (r84 : Option Nat → Int → Int64 → Int → HP → Option ((Unit) × HP)) (x0 : Option Nat) (x4 : Int) (x7 : Int64) (x9 : Int) (h : HP) : Option ((Unit) × HP) :=
  iLE x4 x9
    ((rdR h x0 [33] 0).bind fun v14 =>
    (aldJ h v14 x4).bind fun v15 =>
    (astJ h v14 x4 (v15 ||| x7)).bind fun h16 =>
    b_J40_set_119 x0 h16)
    ((rdR h x0 [33] 0).bind fun v21 =>
    (astJ h v21 x9 (-1 : Int64)).bind fun h22 =>
    r84 x0 x4 x7 (x9 + 1) h22)
noncomputable def b_J40_set_84 : Option Nat → Int → Int64 → Int → HP → Option ((Unit) × HP) := fx (fun _ _ _ _ _ => none) (c_J40_set_84) FU
theorem C_J40_set_84 {M : hp_M} {G : va_G} {h0 : HP} (X : hp_X M G h0 "java/util/BitSet" "set" cJ40_set 10 none [] 4 190) (r84 : Option Nat → Int → Int64 → Int → HP → Option ((Unit) × HP)) (hr84 : ∀ (y0 : Option Nat) (y4 : Int) (y7 : Int64) (y9 : Int) (h : HP), vv M G h0 10 (hp_End M G h0) jV h 84 [(0, LR y0), (4, LI y4), (7, LJ y7), (9, LI y9)] [] (r84 y0 y4 y7 y9 h)) (x0 : Option Nat) (x4 : Int) (x7 : Int64) (x9 : Int) (h : HP) : vv M G h0 10 (hp_End M G h0) jV h 84 [(0, LR x0), (4, LI x4), (7, LJ x7), (9, LI x9)] [] (c_J40_set_84 r84 x0 x4 x7 x9 h) := by
  unfold c_J40_set_84
  refine vv_iload (pc := 84) X 3 rfl dJ40_set_84 ?_
  refine vv_iload (pc := 86) X 1 rfl dJ40_set_86 ?_
  refine vv_icmp_ge (pc := 88) (tgt := 107) X dJ40_set_88 rfl ?_ ?_
  · refine vv_aload_n (pc := 107) X (kf := 0) (i := 0) rfl 0 rfl dJ40_set_107 ?_
    refine vv_getR (pc := 108) X (fun _ z => by cases List.mem_singleton.mp z; exact fl_J40_11_33) dJ40_set_108 (fun v14 => ?_)
    refine vv_iload (pc := 111) X 1 rfl dJ40_set_111 ?_
    refine vv_dup2 (pc := 113) X rfl rfl dJ40_set_113 ?_
    refine vv_laload (pc := 114) X dJ40_set_114 (fun v15 => ?_)
    refine vv_lload (pc := 115) X 2 rfl dJ40_set_115 ?_
    refine vv_lor (pc := 117) X dJ40_set_117 ?_
    refine vv_lastore (pc := 118) X dJ40_set_118 (fun h16 => ?_)
    exact vv_sub [0] (by rfl) (B_J40_set_119 X _ _)
  · refine vv_aload_n (pc := 91) X (kf := 0) (i := 0) rfl 0 rfl dJ40_set_91 ?_
    refine vv_getR (pc := 92) X (fun _ z => by cases List.mem_singleton.mp z; exact fl_J40_11_33) dJ40_set_92 (fun v21 => ?_)
    refine vv_iload (pc := 95) X 3 rfl dJ40_set_95 ?_
    refine vv_ldc2 (pc := 97) X q2917 dJ40_set_97 ?_
    refine vv_lastore (pc := 100) X dJ40_set_100 (fun h22 => ?_)
    refine vv_iinc (pc := 101) (lv' := [(9, LI (x9 + 1)), (0, LR x0), (4, LI x4), (7, LJ x7)]) X 3 rfl (by decide) rfl dJ40_set_101 ?_
    refine vv_goto (pc := 104) (tgt := 84) X dJ40_set_104 rfl ?_
    exact vv_sub [1, 2, 3, 0] (by rfl) (hr84 _ _ _ _ _)
theorem B_J40_set_84 {M : hp_M} {G : va_G} {h0 : HP} (X : hp_X M G h0 "java/util/BitSet" "set" cJ40_set 10 none [] 4 190) : ∀ (x0 : Option Nat) (x4 : Int) (x7 : Int64) (x9 : Int) (h : HP), vv M G h0 10 (hp_End M G h0) jV h 84 [(0, LR x0), (4, LI x4), (7, LJ x7), (9, LI x9)] [] (b_J40_set_84 x0 x4 x7 x9 h) := by
  unfold b_J40_set_84
  generalize FU = n
  induction n with
  | zero => intro x0 x4 x7 x9 h; exact vv_none
  | succ n ih => exact C_J40_set_84 X _ ih
noncomputable def f_J40_set (a0 : Nat) (a1 : Int) (a2 : Int) (h : HP) : Option ((Unit) × HP) :=
  hb (f_J40_checkRange a1 a2 h) fun _ h2 =>
  iEQ a1 a2
    (some ((), h2))
    (hb (f_J40_wordIndex a1 h2) fun v3 h4 =>
    hb (f_J40_wordIndex (a2 - 1) h4) fun v5 h6 =>
    (rcv h6 (some a0) [33]).bind fun b9 =>
    hb (f_J40_expandTo b9 v5 h6) fun _ h8 =>
    iEQ v3 v5
      ((rdR h8 (some a0) [33] 0).bind fun v23 =>
      (aldJ h8 v23 v3).bind fun v24 =>
      (astJ h8 v23 v3 (v24 ||| ((lShl (-1 : Int64) a1) &&& (lUshr (-1 : Int64) (-a2))))).bind fun h25 =>
      b_J40_set_119 (some a0) h25)
      ((rdR h8 (some a0) [33] 0).bind fun v11 =>
      (aldJ h8 v11 v3).bind fun v12 =>
      (astJ h8 v11 v3 (v12 ||| (lShl (-1 : Int64) a1))).bind fun h13 =>
      b_J40_set_84 (some a0) v5 (lUshr (-1 : Int64) (-a2)) (v3 + 1) h13))
theorem A_J40_set {M : hp_M} {G : va_G} {h0 : HP} (X : hp_X M G h0 "java/util/BitSet" "set" cJ40_set 10 none [] 4 190) (a0 : Nat) (a1 : Int) (a2 : Int) (h : HP) : vv M G h0 10 (hp_End M G h0) jV h 0 [(0, LR (some a0)), (1, LI a1), (2, LI a2)] [] (f_J40_set a0 a1 a2 h) := by
  unfold f_J40_set
  refine vv_iload_n (pc := 0) X (kf := 1) (i := 1) rfl 1 rfl dJ40_set_0 ?_
  refine vv_iload_n (pc := 1) X (kf := 2) (i := 2) rfl 2 rfl dJ40_set_1 ?_
  refine vv_callV (pc := 2) (rest := []) (by rfl) (fun r8 k8 e8 => zz_callS X (m_J40_checkRange (hlM X) _ _ _ _ _ e8) q2886 q2887 q204 q2888 nh_J40 rfl (by decide) (by decide) (Nat.le_of_ble_eq_true rfl) dJ40_set_2) (fun v1 h2 => ?_)
  refine vv_iload_n (pc := 5) X (kf := 1) (i := 1) rfl 1 rfl dJ40_set_5 ?_
  refine vv_iload_n (pc := 6) X (kf := 2) (i := 2) rfl 2 rfl dJ40_set_6 ?_
  refine vv_icmp_ne (pc := 7) (tgt := 11) X dJ40_set_7 rfl ?_ ?_
  · refine vv_iload_n (pc := 11) X (kf := 1) (i := 1) rfl 1 rfl dJ40_set_11 ?_
    refine vv_callI (pc := 12) (rest := []) (by rfl) (fun r8 k8 e8 => zz_callS X (m_J40_wordIndex (hlM X) _ _ _ _ e8) q2861 q2862 q204 q2863 nh_J40 rfl (by decide) (by decide) (Nat.le_of_ble_eq_true rfl) dJ40_set_12) (fun v3 h4 => ?_)
    refine vv_istore_n (pc := 15) (lv' := [(3, LI v3), (0, LR (some a0)), (1, LI a1), (2, LI a2)]) X (kf := 3) (i := 3) rfl (by decide) rfl dJ40_set_15 ?_
    refine vv_iload_n (pc := 16) X (kf := 2) (i := 2) rfl 3 rfl dJ40_set_16 ?_
    refine vv_iconst (pc := 17) X dJ40_set_17 ?_
    refine vv_isub (pc := 18) X dJ40_set_18 ?_
    refine vv_callI (pc := 19) (rest := []) (by rfl) (fun r8 k8 e8 => zz_callS X (m_J40_wordIndex (hlM X) _ _ _ _ e8) q2861 q2862 q204 q2863 nh_J40 rfl (by decide) (by decide) (Nat.le_of_ble_eq_true rfl) dJ40_set_19) (fun v5 h6 => ?_)
    refine vv_istore (pc := 22) (lv' := [(4, LI v5), (3, LI v3), (0, LR (some a0)), (1, LI a1), (2, LI a2)]) X (by decide) rfl dJ40_set_22 ?_
    refine vv_aload_n (pc := 24) X (kf := 0) (i := 0) rfl 2 rfl dJ40_set_24 ?_
    refine vv_iload (pc := 25) X 0 rfl dJ40_set_25 ?_
    refine vv_rcv (fun b9 t9 c9 fs9 e10 g9 k9 => ?_)
    cases List.mem_singleton.mp k9
    refine vv_callV (pc := 27) (rest := []) (by rw [e10]; rfl) (fun r8 k8 e8 => zz_callV X (m_J40_expandTo (hlM X) _ _ _ _ _ e8) g9 rfl rfl q2900 q2902 qs40 q204 q2903 nh_J40 rfl (by decide) (by decide) (Nat.le_of_ble_eq_true rfl) dJ40_set_27) (fun v7 h8 => ?_)
    refine vv_ldc2 (pc := 30) X q2917 dJ40_set_30 ?_
    refine vv_iload_n (pc := 33) X (kf := 1) (i := 1) rfl 3 rfl dJ40_set_33 ?_
    refine vv_lshl (pc := 34) X dJ40_set_34 ?_
    refine vv_lstore (pc := 35) (lv' := [(5, LJ (lShl (-1 : Int64) a1)), (4, LI v5), (3, LI v3), (0, LR (some a0)), (1, LI a1), (2, LI a2)]) X (by decide) rfl dJ40_set_35 ?_
    refine vv_ldc2 (pc := 37) X q2917 dJ40_set_37 ?_
    refine vv_iload_n (pc := 40) X (kf := 2) (i := 2) rfl 5 rfl dJ40_set_40 ?_
    refine vv_ineg (pc := 41) X dJ40_set_41 ?_
    refine vv_lushr (pc := 42) X dJ40_set_42 ?_
    refine vv_lstore (pc := 43) (lv' := [(7, LJ (lUshr (-1 : Int64) (-a2))), (5, LJ (lShl (-1 : Int64) a1)), (4, LI v5), (3, LI v3), (0, LR (some a0)), (1, LI a1), (2, LI a2)]) X (by decide) rfl dJ40_set_43 ?_
    refine vv_iload_n (pc := 45) X (kf := 3) (i := 3) rfl 3 rfl dJ40_set_45 ?_
    refine vv_iload (pc := 46) X 2 rfl dJ40_set_46 ?_
    refine vv_icmp_ne (pc := 48) (tgt := 68) X dJ40_set_48 rfl ?_ ?_
    · refine vv_aload_n (pc := 68) X (kf := 0) (i := 0) rfl 4 rfl dJ40_set_68 ?_
      refine vv_getR (pc := 69) X (fun _ z => by cases List.mem_singleton.mp z; exact fl_J40_11_33) dJ40_set_69 (fun v11 => ?_)
      refine vv_iload_n (pc := 72) X (kf := 3) (i := 3) rfl 3 rfl dJ40_set_72 ?_
      refine vv_dup2 (pc := 73) X rfl rfl dJ40_set_73 ?_
      refine vv_laload (pc := 74) X dJ40_set_74 (fun v12 => ?_)
      refine vv_lload (pc := 75) X 1 rfl dJ40_set_75 ?_
      refine vv_lor (pc := 77) X dJ40_set_77 ?_
      refine vv_lastore (pc := 78) X dJ40_set_78 (fun h13 => ?_)
      refine vv_iload_n (pc := 79) X (kf := 3) (i := 3) rfl 3 rfl dJ40_set_79 ?_
      refine vv_iconst (pc := 80) X dJ40_set_80 ?_
      refine vv_iadd (pc := 81) X dJ40_set_81 ?_
      refine vv_istore (pc := 82) (lv' := [(9, LI (v3 + 1)), (7, LJ (lUshr (-1 : Int64) (-a2))), (5, LJ (lShl (-1 : Int64) a1)), (4, LI v5), (3, LI v3), (0, LR (some a0)), (1, LI a1), (2, LI a2)]) X (by decide) rfl dJ40_set_82 ?_
      exact vv_sub [5, 3, 1, 0] (by rfl) (B_J40_set_84 X _ _ _ _ _)
    · refine vv_aload_n (pc := 51) X (kf := 0) (i := 0) rfl 4 rfl dJ40_set_51 ?_
      refine vv_getR (pc := 52) X (fun _ z => by cases List.mem_singleton.mp z; exact fl_J40_11_33) dJ40_set_52 (fun v23 => ?_)
      refine vv_iload_n (pc := 55) X (kf := 3) (i := 3) rfl 3 rfl dJ40_set_55 ?_
      refine vv_dup2 (pc := 56) X rfl rfl dJ40_set_56 ?_
      refine vv_laload (pc := 57) X dJ40_set_57 (fun v24 => ?_)
      refine vv_lload (pc := 58) X 1 rfl dJ40_set_58 ?_
      refine vv_lload (pc := 60) X 0 rfl dJ40_set_60 ?_
      refine vv_land (pc := 62) X dJ40_set_62 ?_
      refine vv_lor (pc := 63) X dJ40_set_63 ?_
      refine vv_lastore (pc := 64) X dJ40_set_64 (fun h25 => ?_)
      refine vv_goto (pc := 65) (tgt := 119) X dJ40_set_65 rfl ?_
      exact vv_sub [4] (by rfl) (B_J40_set_119 X _ _)
  · exact vv_vreturn X rfl rfl dJ40_set_10
theorem m_J40_set {l : Launch} (hl : l.stackTraces = false) {G : va_G} (a0 : Nat) (a1 : Int) (a2 : Int) (h : HP) : ∀ r hf, f_J40_set a0 a1 a2 h = some (r, hf) → Ct l yJ40_set (ws_ yJ40_set cJ40_set 10 none) 4 190 G h [.ref a0, .int (iI a1), .int (iI a2)] (jV r) hf :=
  zz_ofW hl (by decide +kernel) (lv := [(0, LR (some a0)), (1, LI a1), (2, LI a2)]) (by simp [lv_args, lvL, lvV, zz_rfc, zz_rfs, zz_ci, zz_cr, zz_cj, zz_cf, zz_cd]) (by simp [lg_sl, zz_rfc, zz_ci, zz_cr, zz_cj, zz_cf, zz_cd]) (fun _ X => A_J40_set X a0 a1 a2 h)
-- J41_isNaN java/lang/Float.isNaN(F)Z
noncomputable def b_J41_isNaN_11 (s0 : Int) (h : HP) : Option ((Int) × HP) :=
  rtZ s0 (some (s0, h))
theorem B_J41_isNaN_11 {M : hp_M} {G : va_G} {h0 : HP} (X : hp_X M G h0 "java/lang/Float" "isNaN" cJ41_isNaN 1 (some .boolean) [] 0 0) (s0 : Int) (h : HP) : vv M G h0 1 (hp_End M G h0) jI h 11 [] [LI s0] (b_J41_isNaN_11 s0 h) := by
  unfold b_J41_isNaN_11
  exact vv_iretZ X rfl rfl dJ41_isNaN_11
noncomputable def f_J41_isNaN (a1 : UInt32) (h : HP) : Option ((Int) × HP) :=
  iEQ (fCmp .l a1 a1) 0
    (b_J41_isNaN_11 0 h)
    (b_J41_isNaN_11 1 h)
theorem A_J41_isNaN {M : hp_M} {G : va_G} {h0 : HP} (X : hp_X M G h0 "java/lang/Float" "isNaN" cJ41_isNaN 1 (some .boolean) [] 0 0) (a1 : UInt32) (h : HP) : vv M G h0 1 (hp_End M G h0) jI h 0 [(0, LF a1)] [] (f_J41_isNaN a1 h) := by
  unfold f_J41_isNaN
  refine vv_fload_n (pc := 0) X (kf := 0) (i := 0) rfl 0 rfl dJ41_isNaN_0 ?_
  refine vv_fload_n (pc := 1) X (kf := 0) (i := 0) rfl 0 rfl dJ41_isNaN_1 ?_
  refine vv_fcmp (pc := 2) X dJ41_isNaN_2 ?_
  refine vv_if_eq (pc := 3) (tgt := 10) X dJ41_isNaN_3 rfl ?_ ?_
  · refine vv_iconst (pc := 10) X dJ41_isNaN_10 ?_
    exact vv_sub [] (by rfl) (B_J41_isNaN_11 X _ _)
  · refine vv_iconst (pc := 6) X dJ41_isNaN_6 ?_
    refine vv_goto (pc := 7) (tgt := 11) X dJ41_isNaN_7 rfl ?_
    exact vv_sub [] (by rfl) (B_J41_isNaN_11 X _ _)
theorem m_J41_isNaN {l : Launch} (hl : l.stackTraces = false) {G : va_G} (a1 : UInt32) (h : HP) : ∀ r hf, f_J41_isNaN a1 h = some (r, hf) → Ct l yJ41_isNaN (ws_ yJ41_isNaN cJ41_isNaN 1 (some .boolean)) 0 0 G h [.float a1] (jI r) hf :=
  zz_ofW hl (by decide +kernel) (lv := [(0, LF a1)]) (by simp [lv_args, lvL, lvV, zz_rfc, zz_rfs, zz_ci, zz_cr, zz_cj, zz_cf, zz_cd]) (by simp [lg_sl, zz_rfc, zz_ci, zz_cr, zz_cj, zz_cf, zz_cd]) (fun _ X => A_J41_isNaN X a1 h)
-- J41_floatToIntBits java/lang/Float.floatToIntBits(F)I
noncomputable def f_J41_floatToIntBits (a1 : UInt32) (h : HP) : Option ((Int) × HP) :=
  hb (f_J41_isNaN a1 h) fun v1 h2 =>
  iEQ v1 0
    (some (((a1).toInt32).toInt, h2))
    (some (2143289344, h2))
theorem A_J41_floatToIntBits {M : hp_M} {G : va_G} {h0 : HP} (X : hp_X M G h0 "java/lang/Float" "floatToIntBits" cJ41_floatToIntBits 1 (some .int) [] 1 100) (a1 : UInt32) (h : HP) : vv M G h0 1 (hp_End M G h0) jI h 0 [(0, LF a1)] [] (f_J41_floatToIntBits a1 h) := by
  unfold f_J41_floatToIntBits
  refine vv_fload_n (pc := 0) X (kf := 0) (i := 0) rfl 0 rfl dJ41_floatToIntBits_0 ?_
  refine vv_callI (pc := 1) (rest := []) (by rfl) (fun r8 k8 e8 => zz_callS X (m_J41_isNaN (hlM X) _ _ _ _ e8) q2937 q2938 q205 q2939 nh_J41 rfl (by decide) (by decide) (Nat.le_of_ble_eq_true rfl) dJ41_floatToIntBits_1) (fun v1 h2 => ?_)
  refine vv_if_ne (pc := 4) (tgt := 12) X dJ41_floatToIntBits_4 rfl ?_ ?_
  · refine vv_ldcI (pc := 12) (n := 2143289344) X q2943 (by decide) dJ41_floatToIntBits_12 ?_
    exact vv_iretI X rfl rfl dJ41_floatToIntBits_14
  · refine vv_fload_n (pc := 7) X (kf := 0) (i := 0) rfl 0 rfl dJ41_floatToIntBits_7 ?_
    refine vv_f2raw (pc := 8) X q2940 q2942 q2941 q205 (by decide) (by decide) (Nat.le_of_ble_eq_true rfl) dJ41_floatToIntBits_8 ?_
    exact vv_iretI X rfl rfl dJ41_floatToIntBits_11
theorem m_J41_floatToIntBits {l : Launch} (hl : l.stackTraces = false) {G : va_G} (a1 : UInt32) (h : HP) : ∀ r hf, f_J41_floatToIntBits a1 h = some (r, hf) → Ct l yJ41_floatToIntBits (ws_ yJ41_floatToIntBits cJ41_floatToIntBits 1 (some .int)) 1 100 G h [.float a1] (jI r) hf :=
  zz_ofW hl (by decide +kernel) (lv := [(0, LF a1)]) (by simp [lv_args, lvL, lvV, zz_rfc, zz_rfs, zz_ci, zz_cr, zz_cj, zz_cf, zz_cd]) (by simp [lg_sl, zz_rfc, zz_ci, zz_cr, zz_cj, zz_cf, zz_cd]) (fun _ X => A_J41_floatToIntBits X a1 h)
-- X1_coveredBits RenamedWords.coveredBits()I
noncomputable def c_X1_coveredBits_22 (r22 : Option Nat → Option Nat → Option Nat → HP → Option ((Int) × HP)) (x0 : Option Nat) (x1 : Option Nat) (x2 : Option Nat) (h : HP) : Option ((Int) × HP) :=
  (rcv h x2 [21]).bind fun b15 =>
  hb (f_X26_hasNext b15 h) fun v13 h14 =>
  iEQ v13 0
    ((rcv h14 x1 [33]).bind fun b19 =>
    hb (f_J40_cardinality b19 h14) fun v17 h18 =>
    (rdR h18 x0 [0] 0).bind fun v21 =>
    (rdR h18 v21 [1] 0).bind fun v22 =>
    (rdI h18 v22 [3] 3).bind fun v23 =>
    (fDv (FP.i2f (iI v17)) (FP.i2f (iI v23))).bind fun v24 =>
    hb (f_J41_floatToIntBits v24 h18) fun v25 h26 =>
    some (v25, h26))
    ((rcv h14 x2 [21]).bind fun b29 =>
    hb (f_X26_next b29 h14) fun v27 h28 =>
    (chk h28 v27 [22]).bind fun _ =>
    (rdI h28 v27 [22] 1).bind fun v31 =>
    (rdI h28 v27 [22] 1).bind fun v32 =>
    (rdR h28 x0 [0] 0).bind fun v33 =>
    (rdR h28 v33 [1] 2).bind fun v34 =>
    (rdI h28 v27 [22] 0).bind fun v35 =>
    (aldR h28 "RenamedWords$Word" v34 v35).bind fun v36 =>
    (rcv h28 v36 [11]).bind fun b39 =>
    hb (f_X14_many b39 h28) fun v37 h38 =>
    (rcv h38 x1 [33]).bind fun b43 =>
    hb (f_J40_set b43 v31 (v32 + v37) h38) fun _ h42 =>
    r22 x0 x1 x2 h42)
noncomputable def b_X1_coveredBits_22 : Option Nat → Option Nat → Option Nat → HP → Option ((Int) × HP) := fx (fun _ _ _ _ => none) (c_X1_coveredBits_22) FU
theorem C_X1_coveredBits_22 {M : hp_M} {G : va_G} {h0 : HP} (X : hp_X M G h0 "RenamedWords" "coveredBits" cX1_coveredBits 4 (some .int) [] 5 227) (r22 : Option Nat → Option Nat → Option Nat → HP → Option ((Int) × HP)) (hr22 : ∀ (y0 : Option Nat) (y1 : Option Nat) (y2 : Option Nat) (h : HP), vv M G h0 4 (hp_End M G h0) jI h 22 [(0, LR y0), (1, LR y1), (2, LR y2)] [] (r22 y0 y1 y2 h)) (x0 : Option Nat) (x1 : Option Nat) (x2 : Option Nat) (h : HP) : vv M G h0 4 (hp_End M G h0) jI h 22 [(0, LR x0), (1, LR x1), (2, LR x2)] [] (c_X1_coveredBits_22 r22 x0 x1 x2 h) := by
  unfold c_X1_coveredBits_22
  refine vv_aload_n (pc := 22) X (kf := 2) (i := 2) rfl 2 rfl dX1_coveredBits_22 ?_
  refine vv_rcv (fun b15 t9 c9 fs9 e16 g9 k9 => ?_)
  cases List.mem_singleton.mp k9
  refine vv_callI (pc := 23) (rest := []) (by rw [e16]; rfl) (fun r8 k8 e8 => zz_callF X (m_X26_hasNext (hlM X) _ _ _ _ e8) g9 rfl q2877 (List.mem_of_getElem? (i := 5) rfl) q2177 q2175 q191 q2179 nh_xjava_util_Iterator rfl (by decide) (by decide) (Nat.le_of_ble_eq_true rfl) dX1_coveredBits_23) (fun v13 h14 => ?_)
  refine vv_if_eq (pc := 28) (tgt := 72) X dX1_coveredBits_28 rfl ?_ ?_
  · refine vv_aload_n (pc := 72) X (kf := 1) (i := 1) rfl 1 rfl dX1_coveredBits_72 ?_
    refine vv_rcv (fun b19 t9 c9 fs9 e20 g9 k9 => ?_)
    cases List.mem_singleton.mp k9
    refine vv_callI (pc := 73) (rest := []) (by rw [e20]; rfl) (fun r8 k8 e8 => zz_callV X (m_J40_cardinality (hlM X) _ _ _ _ e8) g9 rfl rfl q2924 q2925 q2926 q204 q2927 nh_J40 rfl (by decide) (by decide) (Nat.le_of_ble_eq_true rfl) dX1_coveredBits_73) (fun v17 h18 => ?_)
    refine vv_i2f (pc := 76) X dX1_coveredBits_76 ?_
    refine vv_aload_n (pc := 77) X (kf := 0) (i := 0) rfl 0 rfl dX1_coveredBits_77 ?_
    refine vv_getR (pc := 78) X (fun _ z => by cases List.mem_singleton.mp z; exact fl_X1_35_0) dX1_coveredBits_78 (fun v21 => ?_)
    refine vv_getR (pc := 81) X (fun _ z => by cases List.mem_singleton.mp z; exact fl_X1_79_1) dX1_coveredBits_81 (fun v22 => ?_)
    refine vv_getI (pc := 84) X (fun _ z => by cases List.mem_singleton.mp z; exact fl_X1_83_3) dX1_coveredBits_84 (fun v23 => ?_)
    refine vv_i2f (pc := 87) X dX1_coveredBits_87 ?_
    refine vv_fdiv (pc := 88) X dX1_coveredBits_88 (fun v24 => ?_)
    refine vv_callI (pc := 89) (rest := []) (by rfl) (fun r8 k8 e8 => zz_callS X (m_J41_floatToIntBits (hlM X) _ _ _ _ e8) q2934 q2935 q205 q2936 nh_J41 rfl (by decide) (by decide) (Nat.le_of_ble_eq_true rfl) dX1_coveredBits_89) (fun v25 h26 => ?_)
    exact vv_iretI X rfl rfl dX1_coveredBits_92
  · refine vv_aload_n (pc := 31) X (kf := 2) (i := 2) rfl 2 rfl dX1_coveredBits_31 ?_
    refine vv_rcv (fun b29 t9 c9 fs9 e30 g9 k9 => ?_)
    cases List.mem_singleton.mp k9
    refine vv_callR (pc := 32) (rest := []) (by rw [e30]; rfl) (fun r8 k8 e8 => zz_callF X (m_X26_next (hlM X) _ _ _ _ e8) g9 rfl q2879 (List.mem_of_getElem? (i := 6) rfl) q2209 q2207 q191 q2211 nh_xjava_util_Iterator rfl (by decide) (by decide) (Nat.le_of_ble_eq_true rfl) dX1_coveredBits_32) (fun v27 h28 => ?_)
    refine vv_checkcast (pc := 37) X ⟨q2880, (fun _ z => by cases List.mem_singleton.mp z; exact ⟨_, rfl, Or.inl rfl⟩)⟩ dX1_coveredBits_37 ?_
    refine vv_astore_n (pc := 40) (lv' := [(3, LR v27), (0, LR x0), (1, LR x1), (2, LR x2)]) X (kf := 3) (i := 3) rfl (by decide) rfl dX1_coveredBits_40 ?_
    refine vv_aload_n (pc := 41) X (kf := 1) (i := 1) rfl 2 rfl dX1_coveredBits_41 ?_
    refine vv_aload_n (pc := 42) X (kf := 3) (i := 3) rfl 0 rfl dX1_coveredBits_42 ?_
    refine vv_getI (pc := 43) X (fun _ z => by cases List.mem_singleton.mp z; exact fl_X1_301_22) dX1_coveredBits_43 (fun v31 => ?_)
    refine vv_aload_n (pc := 46) X (kf := 3) (i := 3) rfl 0 rfl dX1_coveredBits_46 ?_
    refine vv_getI (pc := 47) X (fun _ z => by cases List.mem_singleton.mp z; exact fl_X1_301_22) dX1_coveredBits_47 (fun v32 => ?_)
    refine vv_aload_n (pc := 50) X (kf := 0) (i := 0) rfl 1 rfl dX1_coveredBits_50 ?_
    refine vv_getR (pc := 51) X (fun _ z => by cases List.mem_singleton.mp z; exact fl_X1_35_0) dX1_coveredBits_51 (fun v33 => ?_)
    refine vv_getR (pc := 54) X (fun _ z => by cases List.mem_singleton.mp z; exact fl_X1_243_1) dX1_coveredBits_54 (fun v34 => ?_)
    refine vv_aload_n (pc := 57) X (kf := 3) (i := 3) rfl 0 rfl dX1_coveredBits_57 ?_
    refine vv_getI (pc := 58) X (fun _ z => by cases List.mem_singleton.mp z; exact fl_X1_306_22) dX1_coveredBits_58 (fun v35 => ?_)
    refine vv_aaload (pc := 61) X dX1_coveredBits_61 (fun v36 => ?_)
    refine vv_rcv (fun b39 t9 c9 fs9 e40 g9 k9 => ?_)
    cases List.mem_singleton.mp k9
    refine vv_callI (pc := 62) (rest := [LI v32, LI v31, LR x1]) (by rw [e40]; rfl) (fun r8 k8 e8 => zz_callV X (m_X14_many (hlM X) _ _ _ _ e8) g9 rfl rfl q2881 q2601 q2602 q174 q2603 nh_X14 rfl (by decide) (by decide) (Nat.le_of_ble_eq_true rfl) dX1_coveredBits_62) (fun v37 h38 => ?_)
    refine vv_iadd (pc := 65) X dX1_coveredBits_65 ?_
    refine vv_rcv (fun b43 t9 c9 fs9 e44 g9 k9 => ?_)
    cases List.mem_singleton.mp k9
    refine vv_callV (pc := 66) (rest := []) (by rw [e44]; rfl) (fun r8 k8 e8 => zz_callV X (m_J40_set (hlM X) _ _ _ _ _ _ e8) g9 rfl rfl q2882 q2883 q2884 q204 q2885 nh_J40 rfl (by decide) (by decide) (Nat.le_of_ble_eq_true rfl) dX1_coveredBits_66) (fun v41 h42 => ?_)
    refine vv_goto (pc := 69) (tgt := 22) X dX1_coveredBits_69 rfl ?_
    exact vv_sub [1, 2, 3] (by rfl) (hr22 _ _ _ _)
theorem B_X1_coveredBits_22 {M : hp_M} {G : va_G} {h0 : HP} (X : hp_X M G h0 "RenamedWords" "coveredBits" cX1_coveredBits 4 (some .int) [] 5 227) : ∀ (x0 : Option Nat) (x1 : Option Nat) (x2 : Option Nat) (h : HP), vv M G h0 4 (hp_End M G h0) jI h 22 [(0, LR x0), (1, LR x1), (2, LR x2)] [] (b_X1_coveredBits_22 x0 x1 x2 h) := by
  unfold b_X1_coveredBits_22
  generalize FU = n
  induction n with
  | zero => intro x0 x1 x2 h; exact vv_none
  | succ n ih => exact C_X1_coveredBits_22 X _ ih
noncomputable def f_X1_coveredBits (a0 : Nat) (h : HP) : Option ((Int) × HP) :=
  hb (nwO h (hp_n h + 2) 33 [.inr (.inl none), .inl 0, .inl 0] 3) fun v1 h2 =>
  (v1).bind fun b5 =>
  hb (f_J40_init b5 200 h2) fun _ h4 =>
  (rdR h4 (some a0) [0] 0).bind fun v7 =>
  (rdR h4 v7 [1] 3).bind fun v8 =>
  (rcv h4 v8 [4]).bind fun b11 =>
  hb (f_X6_iterator b11 h4) fun v9 h10 =>
  b_X1_coveredBits_22 (some a0) v1 v9 h10
theorem A_X1_coveredBits {M : hp_M} {G : va_G} {h0 : HP} (X : hp_X M G h0 "RenamedWords" "coveredBits" cX1_coveredBits 4 (some .int) [] 5 227) (a0 : Nat) (h : HP) : vv M G h0 4 (hp_End M G h0) jI h 0 [(0, LR (some a0))] [] (f_X1_coveredBits a0 h) := by
  unfold f_X1_coveredBits
  refine vv_new (pc := 0) X tyJ40 rfl in_J40 tyJ40_ok q2851 q2852 q204 ndJ40 (by decide) dX1_coveredBits_0 (fun v1 h2 => ?_)
  refine vv_dup (pc := 3) X rfl dX1_coveredBits_3 ?_
  refine vv_sipush (pc := 4) X (by decide) dX1_coveredBits_4 ?_
  refine vv_bnd (fun b5 e6 => ?_)
  refine vv_callV (pc := 7) (rest := [LR v1]) (by rw [e6]; rfl) (fun r8 k8 e8 => zz_callI X (m_J40_init (hlM X) _ _ _ _ _ e8) q2853 q2854 q204 q2855 rfl nh_J40 rfl (by decide) (by decide) (Nat.le_of_ble_eq_true rfl) dX1_coveredBits_7) (fun v3 h4 => ?_)
  refine vv_astore_n (pc := 10) (lv' := [(1, LR v1), (0, LR (some a0))]) X (kf := 1) (i := 1) rfl (by decide) rfl dX1_coveredBits_10 ?_
  refine vv_aload_n (pc := 11) X (kf := 0) (i := 0) rfl 1 rfl dX1_coveredBits_11 ?_
  refine vv_getR (pc := 12) X (fun _ z => by cases List.mem_singleton.mp z; exact fl_X1_35_0) dX1_coveredBits_12 (fun v7 => ?_)
  refine vv_getR (pc := 15) X (fun _ z => by cases List.mem_singleton.mp z; exact fl_X1_196_1) dX1_coveredBits_15 (fun v8 => ?_)
  refine vv_rcv (fun b11 t9 c9 fs9 e12 g9 k9 => ?_)
  cases List.mem_singleton.mp k9
  refine vv_callR (pc := 18) (rest := []) (by rw [e12]; rfl) (fun r8 k8 e8 => zz_callV X (m_X6_iterator (hlM X) _ _ _ _ e8) g9 rfl rfl q2875 q2148 q2149 q158 q2150 nh_X6 rfl (by decide) (by decide) (Nat.le_of_ble_eq_true rfl) dX1_coveredBits_18) (fun v9 h10 => ?_)
  refine vv_astore_n (pc := 21) (lv' := [(2, LR v9), (1, LR v1), (0, LR (some a0))]) X (kf := 2) (i := 2) rfl (by decide) rfl dX1_coveredBits_21 ?_
  exact vv_sub [2, 1, 0] (by rfl) (B_X1_coveredBits_22 X _ _ _ _)
theorem m_X1_coveredBits {l : Launch} (hl : l.stackTraces = false) {G : va_G} (a0 : Nat) (h : HP) : ∀ r hf, f_X1_coveredBits a0 h = some (r, hf) → Ct l yX1_coveredBits (ws_ yX1_coveredBits cX1_coveredBits 4 (some .int)) 5 227 G h [.ref a0] (jI r) hf :=
  zz_ofW hl (by decide +kernel) (lv := [(0, LR (some a0))]) (by simp [lv_args, lvL, lvV, zz_rfc, zz_rfs, zz_ci, zz_cr, zz_cj, zz_cf, zz_cd]) (by simp [lg_sl, zz_rfc, zz_ci, zz_cr, zz_cj, zz_cf, zz_cd]) (fun _ X => A_X1_coveredBits X a0 h)
-- X9_isCovered RenamedWordsModel.isCovered(I)Z
noncomputable def c_X9_isCovered_2 (r2 : Option Nat → Int → Int → HP → Option ((Int) × HP)) (x0 : Option Nat) (x1 : Int) (x2 : Int) (h : HP) : Option ((Int) × HP) :=
  (rdR h x0 [7] 0).bind fun v1 =>
  (aldI h .int v1 3).bind fun v2 =>
  iLE v2 x2
    (some (0, h))
    ((rcv h x0 [7]).bind fun b5 =>
    hb (f_X9_markPlace b5 x2 h) fun v3 h4 =>
    (rcv h4 x0 [7]).bind fun b9 =>
    hb (f_X9_markPlace b9 x2 h4) fun v7 h8 =>
    (rcv h8 x0 [7]).bind fun b13 =>
    hb (f_X9_markPattern b13 x2 h8) fun v11 h12 =>
    (rcv h12 x0 [7]).bind fun b17 =>
    hb (f_X9_of b17 v11 0 h12) fun v15 h16 =>
    hb (f_X9_in x1 v3 ((v7 + v15) - 1) h16) fun v19 h20 =>
    iEQ v19 0
      (r2 x0 x1 (x2 + 1) h20)
      (some (1, h20)))
noncomputable def b_X9_isCovered_2 : Option Nat → Int → Int → HP → Option ((Int) × HP) := fx (fun _ _ _ _ => none) (c_X9_isCovered_2) FU
theorem C_X9_isCovered_2 {M : hp_M} {G : va_G} {h0 : HP} (X : hp_X M G h0 "RenamedWordsModel" "isCovered" cX9_isCovered 3 (some .boolean) [] 1 30) (r2 : Option Nat → Int → Int → HP → Option ((Int) × HP)) (hr2 : ∀ (y0 : Option Nat) (y1 : Int) (y2 : Int) (h : HP), vv M G h0 3 (hp_End M G h0) jI h 2 [(0, LR y0), (1, LI y1), (2, LI y2)] [] (r2 y0 y1 y2 h)) (x0 : Option Nat) (x1 : Int) (x2 : Int) (h : HP) : vv M G h0 3 (hp_End M G h0) jI h 2 [(0, LR x0), (1, LI x1), (2, LI x2)] [] (c_X9_isCovered_2 r2 x0 x1 x2 h) := by
  unfold c_X9_isCovered_2
  refine vv_iload_n (pc := 2) X (kf := 2) (i := 2) rfl 2 rfl dX9_isCovered_2 ?_
  refine vv_aload_n (pc := 3) X (kf := 0) (i := 0) rfl 0 rfl dX9_isCovered_3 ?_
  refine vv_getR (pc := 4) X (fun _ z => by cases List.mem_singleton.mp z; exact fl_X9_9_7) dX9_isCovered_4 (fun v1 => ?_)
  refine vv_iconst (pc := 7) X dX9_isCovered_7 ?_
  refine vv_iaload (pc := 8) X dX9_isCovered_8 (fun v2 => ?_)
  refine vv_icmp_ge (pc := 9) (tgt := 50) X dX9_isCovered_9 rfl ?_ ?_
  · refine vv_iconst (pc := 50) X dX9_isCovered_50 ?_
    exact vv_iret0 X rfl rfl dX9_isCovered_51
  · refine vv_iload_n (pc := 12) X (kf := 1) (i := 1) rfl 1 rfl dX9_isCovered_12 ?_
    refine vv_aload_n (pc := 13) X (kf := 0) (i := 0) rfl 0 rfl dX9_isCovered_13 ?_
    refine vv_iload_n (pc := 14) X (kf := 2) (i := 2) rfl 2 rfl dX9_isCovered_14 ?_
    refine vv_rcv (fun b5 t9 c9 fs9 e6 g9 k9 => ?_)
    cases List.mem_singleton.mp k9
    refine vv_callI (pc := 15) (rest := [LI x1]) (by rw [e6]; rfl) (fun r8 k8 e8 => zz_callV X (m_X9_markPlace (hlM X) _ _ _ _ _ e8) g9 rfl rfl q3747 q3749 qs88 q164 q3750 nh_X9 rfl (by decide) (by decide) (Nat.le_of_ble_eq_true rfl) dX9_isCovered_15) (fun v3 h4 => ?_)
    refine vv_aload_n (pc := 18) X (kf := 0) (i := 0) rfl 0 rfl dX9_isCovered_18 ?_
    refine vv_iload_n (pc := 19) X (kf := 2) (i := 2) rfl 2 rfl dX9_isCovered_19 ?_
    refine vv_rcv (fun b9 t9 c9 fs9 e10 g9 k9 => ?_)
    cases List.mem_singleton.mp k9
    refine vv_callI (pc := 20) (rest := [LI v3, LI x1]) (by rw [e10]; rfl) (fun r8 k8 e8 => zz_callV X (m_X9_markPlace (hlM X) _ _ _ _ _ e8) g9 rfl rfl q3747 q3749 qs88 q164 q3750 nh_X9 rfl (by decide) (by decide) (Nat.le_of_ble_eq_true rfl) dX9_isCovered_20) (fun v7 h8 => ?_)
    refine vv_aload_n (pc := 23) X (kf := 0) (i := 0) rfl 0 rfl dX9_isCovered_23 ?_
    refine vv_aload_n (pc := 24) X (kf := 0) (i := 0) rfl 0 rfl dX9_isCovered_24 ?_
    refine vv_iload_n (pc := 25) X (kf := 2) (i := 2) rfl 2 rfl dX9_isCovered_25 ?_
    refine vv_rcv (fun b13 t9 c9 fs9 e14 g9 k9 => ?_)
    cases List.mem_singleton.mp k9
    refine vv_callI (pc := 26) (rest := [LR x0, LI v7, LI v3, LI x1]) (by rw [e14]; rfl) (fun r8 k8 e8 => zz_callV X (m_X9_markPattern (hlM X) _ _ _ _ _ e8) g9 rfl rfl q3759 q3761 qs91 q164 q3762 nh_X9 rfl (by decide) (by decide) (Nat.le_of_ble_eq_true rfl) dX9_isCovered_26) (fun v11 h12 => ?_)
    refine vv_iconst (pc := 29) X dX9_isCovered_29 ?_
    refine vv_rcv (fun b17 t9 c9 fs9 e18 g9 k9 => ?_)
    cases List.mem_singleton.mp k9
    refine vv_callI (pc := 30) (rest := [LI v7, LI v3, LI x1]) (by rw [e18]; rfl) (fun r8 k8 e8 => zz_callV X (m_X9_of (hlM X) _ _ _ _ _ _ e8) g9 rfl rfl q3777 q3779 qs94 q164 q3780 nh_X9 rfl (by decide) (by decide) (Nat.le_of_ble_eq_true rfl) dX9_isCovered_30) (fun v15 h16 => ?_)
    refine vv_iadd (pc := 33) X dX9_isCovered_33 ?_
    refine vv_iconst (pc := 34) X dX9_isCovered_34 ?_
    refine vv_isub (pc := 35) X dX9_isCovered_35 ?_
    refine vv_callI (pc := 36) (rest := []) (by rfl) (fun r8 k8 e8 => zz_callS X (m_X9_in (hlM X) _ _ _ _ _ _ e8) q3593 q3594 q164 q3595 nh_X9 rfl (by decide) (by decide) (Nat.le_of_ble_eq_true rfl) dX9_isCovered_36) (fun v19 h20 => ?_)
    refine vv_if_eq (pc := 39) (tgt := 44) X dX9_isCovered_39 rfl ?_ ?_
    · refine vv_iinc (pc := 44) (lv' := [(2, LI (x2 + 1)), (0, LR x0), (1, LI x1)]) X 2 rfl (by decide) rfl dX9_isCovered_44 ?_
      refine vv_goto (pc := 47) (tgt := 2) X dX9_isCovered_47 rfl ?_
      exact vv_sub [1, 2, 0] (by rfl) (hr2 _ _ _ _)
    · refine vv_iconst (pc := 42) X dX9_isCovered_42 ?_
      exact vv_iret1 X rfl rfl dX9_isCovered_43
theorem B_X9_isCovered_2 {M : hp_M} {G : va_G} {h0 : HP} (X : hp_X M G h0 "RenamedWordsModel" "isCovered" cX9_isCovered 3 (some .boolean) [] 1 30) : ∀ (x0 : Option Nat) (x1 : Int) (x2 : Int) (h : HP), vv M G h0 3 (hp_End M G h0) jI h 2 [(0, LR x0), (1, LI x1), (2, LI x2)] [] (b_X9_isCovered_2 x0 x1 x2 h) := by
  unfold b_X9_isCovered_2
  generalize FU = n
  induction n with
  | zero => intro x0 x1 x2 h; exact vv_none
  | succ n ih => exact C_X9_isCovered_2 X _ ih
noncomputable def f_X9_isCovered (a0 : Nat) (a1 : Int) (h : HP) : Option ((Int) × HP) :=
  b_X9_isCovered_2 (some a0) a1 0 h
theorem A_X9_isCovered {M : hp_M} {G : va_G} {h0 : HP} (X : hp_X M G h0 "RenamedWordsModel" "isCovered" cX9_isCovered 3 (some .boolean) [] 1 30) (a0 : Nat) (a1 : Int) (h : HP) : vv M G h0 3 (hp_End M G h0) jI h 0 [(0, LR (some a0)), (1, LI a1)] [] (f_X9_isCovered a0 a1 h) := by
  unfold f_X9_isCovered
  refine vv_iconst (pc := 0) X dX9_isCovered_0 ?_
  refine vv_istore_n (pc := 1) (lv' := [(2, LI 0), (0, LR (some a0)), (1, LI a1)]) X (kf := 2) (i := 2) rfl (by decide) rfl dX9_isCovered_1 ?_
  exact vv_sub [1, 2, 0] (by rfl) (B_X9_isCovered_2 X _ _ _ _)
theorem m_X9_isCovered {l : Launch} (hl : l.stackTraces = false) {G : va_G} (a0 : Nat) (a1 : Int) (h : HP) : ∀ r hf, f_X9_isCovered a0 a1 h = some (r, hf) → Ct l yX9_isCovered (ws_ yX9_isCovered cX9_isCovered 3 (some .boolean)) 1 30 G h [.ref a0, .int (iI a1)] (jI r) hf :=
  zz_ofW hl (by decide +kernel) (lv := [(0, LR (some a0)), (1, LI a1)]) (by simp [lv_args, lvL, lvV, zz_rfc, zz_rfs, zz_ci, zz_cr, zz_cj, zz_cf, zz_cd]) (by simp [lg_sl, zz_rfc, zz_ci, zz_cr, zz_cj, zz_cf, zz_cd]) (fun _ X => A_X9_isCovered X a0 a1 h)
-- X9_coveredBits RenamedWordsModel.coveredBits()I
noncomputable def c_X9_coveredBits_9 (r9 : Option Nat → Int → Int → HP → Option ((Int) × HP)) (x0 : Option Nat) (x1 : Int) (x2 : Int) (h : HP) : Option ((Int) × HP) :=
  (rdR h x0 [7] 0).bind fun v2 =>
  (aldI h .int v2 1).bind fun v3 =>
  iLE v3 x2
    ((rdR h x0 [7] 0).bind fun v4 =>
    (aldI h .int v4 1).bind fun v5 =>
    (fDv (FP.i2f (iI x1)) (FP.i2f (iI v5))).bind fun v6 =>
    hb (f_J41_floatToIntBits v6 h) fun v7 h8 =>
    some (v7, h8))
    ((rcv h x0 [7]).bind fun b11 =>
    hb (f_X9_isCovered b11 x2 h) fun v9 h10 =>
    hb (f_X9_one v9 h10) fun v13 h14 =>
    r9 x0 (x1 + v13) (x2 + 1) h14)
noncomputable def b_X9_coveredBits_9 : Option Nat → Int → Int → HP → Option ((Int) × HP) := fx (fun _ _ _ _ => none) (c_X9_coveredBits_9) FU
theorem C_X9_coveredBits_9 {M : hp_M} {G : va_G} {h0 : HP} (X : hp_X M G h0 "RenamedWordsModel" "coveredBits" cX9_coveredBits 3 (some .int) [] 2 128) (r9 : Option Nat → Int → Int → HP → Option ((Int) × HP)) (hr9 : ∀ (y0 : Option Nat) (y1 : Int) (y2 : Int) (h : HP), vv M G h0 3 (hp_End M G h0) jI h 9 [(0, LR y0), (1, LI y1), (2, LI y2)] [] (r9 y0 y1 y2 h)) (x0 : Option Nat) (x1 : Int) (x2 : Int) (h : HP) : vv M G h0 3 (hp_End M G h0) jI h 9 [(0, LR x0), (1, LI x1), (2, LI x2)] [] (c_X9_coveredBits_9 r9 x0 x1 x2 h) := by
  unfold c_X9_coveredBits_9
  refine vv_iload_n (pc := 9) X (kf := 2) (i := 2) rfl 2 rfl dX9_coveredBits_9 ?_
  refine vv_aload_n (pc := 10) X (kf := 0) (i := 0) rfl 0 rfl dX9_coveredBits_10 ?_
  refine vv_getR (pc := 11) X (fun _ z => by cases List.mem_singleton.mp z; exact fl_X9_9_7) dX9_coveredBits_11 (fun v2 => ?_)
  refine vv_iconst (pc := 14) X dX9_coveredBits_14 ?_
  refine vv_iaload (pc := 15) X dX9_coveredBits_15 (fun v3 => ?_)
  refine vv_icmp_ge (pc := 16) (tgt := 36) X dX9_coveredBits_16 rfl ?_ ?_
  · refine vv_iload_n (pc := 36) X (kf := 1) (i := 1) rfl 1 rfl dX9_coveredBits_36 ?_
    refine vv_i2f (pc := 37) X dX9_coveredBits_37 ?_
    refine vv_aload_n (pc := 38) X (kf := 0) (i := 0) rfl 0 rfl dX9_coveredBits_38 ?_
    refine vv_getR (pc := 39) X (fun _ z => by cases List.mem_singleton.mp z; exact fl_X9_9_7) dX9_coveredBits_39 (fun v4 => ?_)
    refine vv_iconst (pc := 42) X dX9_coveredBits_42 ?_
    refine vv_iaload (pc := 43) X dX9_coveredBits_43 (fun v5 => ?_)
    refine vv_i2f (pc := 44) X dX9_coveredBits_44 ?_
    refine vv_fdiv (pc := 45) X dX9_coveredBits_45 (fun v6 => ?_)
    refine vv_callI (pc := 46) (rest := []) (by rfl) (fun r8 k8 e8 => zz_callS X (m_J41_floatToIntBits (hlM X) _ _ _ _ e8) q3937 q2935 q205 q2936 nh_J41 rfl (by decide) (by decide) (Nat.le_of_ble_eq_true rfl) dX9_coveredBits_46) (fun v7 h8 => ?_)
    exact vv_iretI X rfl rfl dX9_coveredBits_49
  · refine vv_iload_n (pc := 19) X (kf := 1) (i := 1) rfl 1 rfl dX9_coveredBits_19 ?_
    refine vv_aload_n (pc := 20) X (kf := 0) (i := 0) rfl 0 rfl dX9_coveredBits_20 ?_
    refine vv_iload_n (pc := 21) X (kf := 2) (i := 2) rfl 2 rfl dX9_coveredBits_21 ?_
    refine vv_rcv (fun b11 t9 c9 fs9 e12 g9 k9 => ?_)
    cases List.mem_singleton.mp k9
    refine vv_callI (pc := 22) (rest := [LI x1]) (by rw [e12]; rfl) (fun r8 k8 e8 => zz_callV X (m_X9_isCovered (hlM X) _ _ _ _ _ e8) g9 rfl rfl q3933 q3935 qs119 q164 q3936 nh_X9 rfl (by decide) (by decide) (Nat.le_of_ble_eq_true rfl) dX9_coveredBits_22) (fun v9 h10 => ?_)
    refine vv_callI (pc := 25) (rest := [LI x1]) (by rfl) (fun r8 k8 e8 => zz_callS X (m_X9_one (hlM X) _ _ _ _ e8) q3559 q3560 q164 q3561 nh_X9 rfl (by decide) (by decide) (Nat.le_of_ble_eq_true rfl) dX9_coveredBits_25) (fun v13 h14 => ?_)
    refine vv_iadd (pc := 28) X dX9_coveredBits_28 ?_
    refine vv_istore_n (pc := 29) (lv' := [(1, LI (x1 + v13)), (0, LR x0), (2, LI x2)]) X (kf := 1) (i := 1) rfl (by decide) rfl dX9_coveredBits_29 ?_
    refine vv_iinc (pc := 30) (lv' := [(2, LI (x2 + 1)), (1, LI (x1 + v13)), (0, LR x0)]) X 2 rfl (by decide) rfl dX9_coveredBits_30 ?_
    refine vv_goto (pc := 33) (tgt := 9) X dX9_coveredBits_33 rfl ?_
    exact vv_sub [2, 1, 0] (by rfl) (hr9 _ _ _ _)
theorem B_X9_coveredBits_9 {M : hp_M} {G : va_G} {h0 : HP} (X : hp_X M G h0 "RenamedWordsModel" "coveredBits" cX9_coveredBits 3 (some .int) [] 2 128) : ∀ (x0 : Option Nat) (x1 : Int) (x2 : Int) (h : HP), vv M G h0 3 (hp_End M G h0) jI h 9 [(0, LR x0), (1, LI x1), (2, LI x2)] [] (b_X9_coveredBits_9 x0 x1 x2 h) := by
  unfold b_X9_coveredBits_9
  generalize FU = n
  induction n with
  | zero => intro x0 x1 x2 h; exact vv_none
  | succ n ih => exact C_X9_coveredBits_9 X _ ih
noncomputable def f_X9_coveredBits (a0 : Nat) (h : HP) : Option ((Int) × HP) :=
  (wrI h (some a0) [7] 7 0).bind fun h1 =>
  b_X9_coveredBits_9 (some a0) 0 0 h1
theorem A_X9_coveredBits {M : hp_M} {G : va_G} {h0 : HP} (X : hp_X M G h0 "RenamedWordsModel" "coveredBits" cX9_coveredBits 3 (some .int) [] 2 128) (a0 : Nat) (h : HP) : vv M G h0 3 (hp_End M G h0) jI h 0 [(0, LR (some a0))] [] (f_X9_coveredBits a0 h) := by
  unfold f_X9_coveredBits
  refine vv_aload_n (pc := 0) X (kf := 0) (i := 0) rfl 0 rfl dX9_coveredBits_0 ?_
  refine vv_iconst (pc := 1) X dX9_coveredBits_1 ?_
  refine vv_putI (pc := 2) (fin := false) X (fun _ z => by cases List.mem_singleton.mp z; exact fl_X9_69_7) (fun z => nomatch z) (fun z => nomatch z) dX9_coveredBits_2 (fun h1 => ?_)
  refine vv_iconst (pc := 5) X dX9_coveredBits_5 ?_
  refine vv_istore_n (pc := 6) (lv' := [(1, LI 0), (0, LR (some a0))]) X (kf := 1) (i := 1) rfl (by decide) rfl dX9_coveredBits_6 ?_
  refine vv_iconst (pc := 7) X dX9_coveredBits_7 ?_
  refine vv_istore_n (pc := 8) (lv' := [(2, LI 0), (1, LI 0), (0, LR (some a0))]) X (kf := 2) (i := 2) rfl (by decide) rfl dX9_coveredBits_8 ?_
  exact vv_sub [2, 1, 0] (by rfl) (B_X9_coveredBits_9 X _ _ _ _)
theorem m_X9_coveredBits {l : Launch} (hl : l.stackTraces = false) {G : va_G} (a0 : Nat) (h : HP) : ∀ r hf, f_X9_coveredBits a0 h = some (r, hf) → Ct l yX9_coveredBits (ws_ yX9_coveredBits cX9_coveredBits 3 (some .int)) 2 128 G h [.ref a0] (jI r) hf :=
  zz_ofW hl (by decide +kernel) (lv := [(0, LR (some a0))]) (by simp [lv_args, lvL, lvV, zz_rfc, zz_rfs, zz_ci, zz_cr, zz_cj, zz_cf, zz_cd]) (by simp [lg_sl, zz_rfc, zz_ci, zz_cr, zz_cj, zz_cf, zz_cd]) (fun _ X => A_X9_coveredBits X a0 h)
-- X1_at RenamedWords.at(II)V
noncomputable def f_X1_at (a0 : Nat) (a1 : Int) (a2 : Int) (h : HP) : Option ((Nat ⊕ Unit) × HP) :=
  (rcv h (some a0) [0]).bind fun b3 =>
  hbx (f_X1_patternAt b3 a1 h) (fun q5 h6 =>
      some (.inl q5, h6)) fun v1 h2 =>
  (rcv h2 (some a0) [0]).bind fun b9 =>
  hbx (f_X1_placeAt b9 a2 h2) (fun q11 h12 =>
      some (.inl q11, h12)) fun _ h8 =>
  some (.inr (), h8)
theorem A_X1_at {M : hp_M} {G : va_G} {h0 : HP} (X : hp_X M G h0 "RenamedWords" "at" cX1_at 4 none [] 8 154) (a0 : Nat) (a1 : Int) (a2 : Int) (h : HP) : vv M G h0 4 (hp_End M G h0) xV h 0 [(0, LR (some a0)), (1, LI a1), (2, LI a2)] [] (f_X1_at a0 a1 a2 h) := by
  unfold f_X1_at
  refine vv_aload_n (pc := 0) X (kf := 0) (i := 0) rfl 0 rfl dX1_at_0 ?_
  refine vv_iload_n (pc := 1) X (kf := 1) (i := 1) rfl 1 rfl dX1_at_1 ?_
  refine vv_rcv (fun b3 t9 c9 fs9 e4 g9 k9 => ?_)
  cases List.mem_singleton.mp k9
  refine vv_xallR (pc := 2) (rest := []) (by rw [e4]; rfl) (fun r8 k8 e8 => zz_callV X (m_X1_patternAt (hlM X) _ _ _ _ _ e8) g9 rfl rfl q3102 q3104 qs47 q132 q3105 nh_X1 rfl (by decide) (by decide) (Nat.le_of_ble_eq_true rfl) dX1_at_2) (fun v1 h2 => ?_) (fun q5 h6 => ?_)
  · refine vv_astore_n (pc := 5) (lv' := [(3, LR v1), (0, LR (some a0)), (1, LI a1), (2, LI a2)]) X (kf := 3) (i := 3) rfl (by decide) rfl dX1_at_5 ?_
    refine vv_aload_n (pc := 6) X (kf := 0) (i := 0) rfl 1 rfl dX1_at_6 ?_
    refine vv_iload_n (pc := 7) X (kf := 2) (i := 2) rfl 3 rfl dX1_at_7 ?_
    refine vv_rcv (fun b9 t9 c9 fs9 e10 g9 k9 => ?_)
    cases List.mem_singleton.mp k9
    refine vv_xallV (pc := 8) (rest := []) (by rw [e10]; rfl) (fun r8 k8 e8 => zz_callV X (m_X1_placeAt (hlM X) _ _ _ _ _ e8) g9 rfl rfl q3061 q3063 qs46 q132 q3064 nh_X1 rfl (by decide) (by decide) (Nat.le_of_ble_eq_true rfl) dX1_at_8) (fun v7 h8 => ?_) (fun q11 h12 => ?_)
    · exact vv_vreturn X rfl rfl dX1_at_11
    · exact vvx_out X (by decide) rfl
  · exact vvx_out X (by decide) rfl
theorem m_X1_at {l : Launch} (hl : l.stackTraces = false) {G : va_G} (a0 : Nat) (a1 : Int) (a2 : Int) (h : HP) : ∀ r hf, f_X1_at a0 a1 a2 h = some (r, hf) → Ct l yX1_at (ws_ yX1_at cX1_at 4 none) 8 154 G h [.ref a0, .int (iI a1), .int (iI a2)] (xV r) hf :=
  zz_ofW hl (by decide +kernel) (lv := [(0, LR (some a0)), (1, LI a1), (2, LI a2)]) (by simp [lv_args, lvL, lvV, zz_rfc, zz_rfs, zz_ci, zz_cr, zz_cj, zz_cf, zz_cd]) (by simp [lg_sl, zz_rfc, zz_ci, zz_cr, zz_cj, zz_cf, zz_cd]) (fun _ X => A_X1_at X a0 a1 a2 h)
-- X1_isAt RenamedWords.isAt(II)Z
noncomputable def f_X1_isAt (a0 : Nat) (a1 : Int) (a2 : Int) (h : HP) : Option ((Nat ⊕ Int) × HP) :=
  (rcv h (some a0) [0]).bind fun b3 =>
  hbx (f_X1_at b3 a1 a2 h) (fun q5 h6 =>
      some (.inl q5, h6)) fun _ h2 =>
  (rdR h2 (some a0) [0] 0).bind fun v7 =>
  (rcv h2 v7 [1]).bind fun b10 =>
  hb (f_X2_isAt b10 a1 a2 h2) fun v8 h9 =>
  rtZ v8 (some (.inr v8, h9))
theorem A_X1_isAt {M : hp_M} {G : va_G} {h0 : HP} (X : hp_X M G h0 "RenamedWords" "isAt" cX1_isAt 3 (some .boolean) [] 9 244) (a0 : Nat) (a1 : Int) (a2 : Int) (h : HP) : vv M G h0 3 (hp_End M G h0) xI h 0 [(0, LR (some a0)), (1, LI a1), (2, LI a2)] [] (f_X1_isAt a0 a1 a2 h) := by
  unfold f_X1_isAt
  refine vv_aload_n (pc := 0) X (kf := 0) (i := 0) rfl 0 rfl dX1_isAt_0 ?_
  refine vv_iload_n (pc := 1) X (kf := 1) (i := 1) rfl 1 rfl dX1_isAt_1 ?_
  refine vv_iload_n (pc := 2) X (kf := 2) (i := 2) rfl 2 rfl dX1_isAt_2 ?_
  refine vv_rcv (fun b3 t9 c9 fs9 e4 g9 k9 => ?_)
  cases List.mem_singleton.mp k9
  refine vv_xallV (pc := 3) (rest := []) (by rw [e4]; rfl) (fun r8 k8 e8 => zz_callV X (m_X1_at (hlM X) _ _ _ _ _ _ e8) g9 rfl rfl q3200 q3202 qs48 q132 q3203 nh_X1 rfl (by decide) (by decide) (Nat.le_of_ble_eq_true rfl) dX1_isAt_3) (fun v1 h2 => ?_) (fun q5 h6 => ?_)
  · refine vv_aload_n (pc := 6) X (kf := 0) (i := 0) rfl 0 rfl dX1_isAt_6 ?_
    refine vv_getR (pc := 7) X (fun _ z => by cases List.mem_singleton.mp z; exact fl_X1_35_0) dX1_isAt_7 (fun v7 => ?_)
    refine vv_iload_n (pc := 10) X (kf := 1) (i := 1) rfl 1 rfl dX1_isAt_10 ?_
    refine vv_iload_n (pc := 11) X (kf := 2) (i := 2) rfl 2 rfl dX1_isAt_11 ?_
    refine vv_rcv (fun b10 t9 c9 fs9 e11 g9 k9 => ?_)
    cases List.mem_singleton.mp k9
    refine vv_callI (pc := 12) (rest := []) (by rw [e11]; rfl) (fun r8 k8 e8 => zz_callV X (m_X2_isAt (hlM X) _ _ _ _ _ _ e8) g9 rfl rfl q3204 q2597 q2598 q133 q2599 nh_X2 rfl (by decide) (by decide) (Nat.le_of_ble_eq_true rfl) dX1_isAt_12) (fun v8 h9 => ?_)
    exact vv_iretZ X rfl rfl dX1_isAt_15
  · exact vvx_out X (by decide) rfl
theorem m_X1_isAt {l : Launch} (hl : l.stackTraces = false) {G : va_G} (a0 : Nat) (a1 : Int) (a2 : Int) (h : HP) : ∀ r hf, f_X1_isAt a0 a1 a2 h = some (r, hf) → Ct l yX1_isAt (ws_ yX1_isAt cX1_isAt 3 (some .boolean)) 9 244 G h [.ref a0, .int (iI a1), .int (iI a2)] (xI r) hf :=
  zz_ofW hl (by decide +kernel) (lv := [(0, LR (some a0)), (1, LI a1), (2, LI a2)]) (by simp [lv_args, lvL, lvV, zz_rfc, zz_rfs, zz_ci, zz_cr, zz_cj, zz_cf, zz_cd]) (by simp [lg_sl, zz_rfc, zz_ci, zz_cr, zz_cj, zz_cf, zz_cd]) (fun _ X => A_X1_isAt X a0 a1 a2 h)
-- X0_isAt RenamedWordsLaw.isAt(LRenamedWords;II[J)I
noncomputable def b_X0_isAt_20 (s0 : Option Nat) (h : HP) : Option ((Int) × HP) :=
  some (1, h)
theorem B_X0_isAt_20 {M : hp_M} {G : va_G} {h0 : HP} (X : hp_X M G h0 "RenamedWordsLaw" "isAt" cX0_isAt 5 (some .int) (tableOf [(0, 17, 20, 18)]) 10 274) (s0 : Option Nat) (h : HP) : vv M G h0 5 (hp_End M G h0) jI h 20 [] [LR s0] (b_X0_isAt_20 s0 h) := by
  unfold b_X0_isAt_20
  refine vv_astore (pc := 20) (lv' := [(4, LR s0)]) X (by decide) rfl dX0_isAt_20 ?_
  refine vv_iconst (pc := 22) X dX0_isAt_22 ?_
  exact vv_iretI X rfl rfl dX0_isAt_23
noncomputable def b_X0_isAt_16 (s0 : Int64) (s1 : Int) (s2 : Option Nat) (h : HP) : Option ((Int) × HP) :=
  (astJ h s2 s1 s0).bind fun h8 =>
  some (0, h8)
theorem B_X0_isAt_16 {M : hp_M} {G : va_G} {h0 : HP} (X : hp_X M G h0 "RenamedWordsLaw" "isAt" cX0_isAt 5 (some .int) (tableOf [(0, 17, 20, 18)]) 10 274) (s0 : Int64) (s1 : Int) (s2 : Option Nat) (h : HP) : vv M G h0 5 (hp_End M G h0) jI h 16 [] [LJ s0, LI s1, LR s2] (b_X0_isAt_16 s0 s1 s2 h) := by
  unfold b_X0_isAt_16
  refine vv_lastore (pc := 16) X dX0_isAt_16 (fun h8 => ?_)
  refine vv_goto (pc := 17) (tgt := 24) X dX0_isAt_17 rfl ?_
  refine vv_iconst (pc := 24) X dX0_isAt_24 ?_
  exact vv_iretI X rfl rfl dX0_isAt_25
noncomputable def f_X0_isAt (a1 : Option Nat) (a2 : Int) (a3 : Int) (a4 : Option Nat) (h : HP) : Option ((Int) × HP) :=
  (rcv h a1 [0]).bind fun b3 =>
  hbx (f_X1_isAt b3 a2 a3 h) (fun q5 h6 =>
      (clsOf h6 q5).bind fun c7 =>
      if c7 = 35 then
        b_X0_isAt_20 (some q5) h6
      else
        none) fun v1 h2 =>
  iEQ v1 0
    (b_X0_isAt_16 0 0 a4 h2)
    (b_X0_isAt_16 1 0 a4 h2)
theorem A_X0_isAt {M : hp_M} {G : va_G} {h0 : HP} (X : hp_X M G h0 "RenamedWordsLaw" "isAt" cX0_isAt 5 (some .int) (tableOf [(0, 17, 20, 18)]) 10 274) (a1 : Option Nat) (a2 : Int) (a3 : Int) (a4 : Option Nat) (h : HP) : vv M G h0 5 (hp_End M G h0) jI h 0 [(0, LR a1), (1, LI a2), (2, LI a3), (3, LR a4)] [] (f_X0_isAt a1 a2 a3 a4 h) := by
  unfold f_X0_isAt
  refine vv_aload_n (pc := 0) X (kf := 3) (i := 3) rfl 3 rfl dX0_isAt_0 ?_
  refine vv_iconst (pc := 1) X dX0_isAt_1 ?_
  refine vv_aload_n (pc := 2) X (kf := 0) (i := 0) rfl 0 rfl dX0_isAt_2 ?_
  refine vv_iload_n (pc := 3) X (kf := 1) (i := 1) rfl 1 rfl dX0_isAt_3 ?_
  refine vv_iload_n (pc := 4) X (kf := 2) (i := 2) rfl 2 rfl dX0_isAt_4 ?_
  refine vv_rcv (fun b3 t9 c9 fs9 e4 g9 k9 => ?_)
  cases List.mem_singleton.mp k9
  refine vv_xallI (pc := 5) (rest := [LI 0, LR a4]) (by rw [e4]; rfl) (fun r8 k8 e8 => zz_callV X (m_X1_isAt (hlM X) _ _ _ _ _ _ e8) g9 rfl rfl q3196 q3197 q3198 q132 q3199 nh_X1 rfl (by decide) (by decide) (Nat.le_of_ble_eq_true rfl) dX0_isAt_5) (fun v1 h2 => ?_) (fun q5 h6 => ?_)
  · refine vv_if_eq (pc := 8) (tgt := 15) X dX0_isAt_8 rfl ?_ ?_
    · refine vv_lconst (pc := 15) (v := 0) X (by decide) dX0_isAt_15 ?_
      exact vv_sub [] (by rfl) (B_X0_isAt_16 X _ _ _ _)
    · refine vv_lconst (pc := 11) (v := 1) X (by decide) dX0_isAt_11 ?_
      refine vv_goto (pc := 12) (tgt := 16) X dX0_isAt_12 rfl ?_
      exact vv_sub [] (by rfl) (B_X0_isAt_16 X _ _ _ _)
  · refine vvx_cls (fun _ c7 _ g9 => ?_)
    refine vvx_if (fun e9 => ?_) (fun _ => ?_)
    · subst e9
      refine vvx_catch X g9 rfl [] ⟨0, 17, 20, 18⟩ [] rfl (fun z hz => nomatch hz) rfl (by decide) q3041 q2274 ?_
      exact vv_sub [] (by rfl) (B_X0_isAt_20 X _ _)
    · exact vvx_none
theorem m_X0_isAt {l : Launch} (hl : l.stackTraces = false) {G : va_G} (a1 : Option Nat) (a2 : Int) (a3 : Int) (a4 : Option Nat) (h : HP) : ∀ r hf, f_X0_isAt a1 a2 a3 a4 h = some (r, hf) → Ct l yX0_isAt (wsW_ yX0_isAt cX0_isAt 5 (some .int) [(0, 17, 20, 18)]) 10 274 G h [va_rf a1, .int (iI a2), .int (iI a3), va_rf a4] (jI r) hf :=
  zz_ofWH hl (by decide +kernel) (lv := [(0, LR a1), (1, LI a2), (2, LI a3), (3, LR a4)]) (by simp [lv_args, lvL, lvV, zz_rfc, zz_rfs, zz_ci, zz_cr, zz_cj, zz_cf, zz_cd]) (by simp [lg_sl, zz_rfc, zz_ci, zz_cr, zz_cj, zz_cf, zz_cd]) (fun _ X => A_X0_isAt X a1 a2 a3 a4 h)
-- X9_noThere RenamedWordsModel.noThere(II)Z
noncomputable def b_X9_noThere_21 (s0 : Int) (h : HP) : Option ((Int) × HP) :=
  rtZ s0 (some (s0, h))
theorem B_X9_noThere_21 {M : hp_M} {G : va_G} {h0 : HP} (X : hp_X M G h0 "RenamedWordsModel" "noThere" cX9_noThere 3 (some .boolean) [] 2 59) (s0 : Int) (h : HP) : vv M G h0 3 (hp_End M G h0) jI h 21 [] [LI s0] (b_X9_noThere_21 s0 h) := by
  unfold b_X9_noThere_21
  exact vv_iretZ X rfl rfl dX9_noThere_21
noncomputable def b_X9_noThere_16 (h : HP) : Option ((Int) × HP) :=
  b_X9_noThere_21 1 h
theorem B_X9_noThere_16 {M : hp_M} {G : va_G} {h0 : HP} (X : hp_X M G h0 "RenamedWordsModel" "noThere" cX9_noThere 3 (some .boolean) [] 2 59) (h : HP) : vv M G h0 3 (hp_End M G h0) jI h 16 [] [] (b_X9_noThere_16 h) := by
  unfold b_X9_noThere_16
  refine vv_iconst (pc := 16) X dX9_noThere_16 ?_
  refine vv_goto (pc := 17) (tgt := 21) X dX9_noThere_17 rfl ?_
  exact B_X9_noThere_21 X _ _
noncomputable def f_X9_noThere (a0 : Nat) (a1 : Int) (a2 : Int) (h : HP) : Option ((Int) × HP) :=
  (rcv h (some a0) [7]).bind fun b3 =>
  hb (f_X9_noPattern b3 a1 h) fun v1 h2 =>
  iEQ v1 0
    ((rcv h2 (some a0) [7]).bind fun b7 =>
    hb (f_X9_noPlace b7 a2 h2) fun v5 h6 =>
    iEQ v5 0
      (b_X9_noThere_21 0 h6)
      (b_X9_noThere_16 h6))
    (b_X9_noThere_16 h2)
theorem A_X9_noThere {M : hp_M} {G : va_G} {h0 : HP} (X : hp_X M G h0 "RenamedWordsModel" "noThere" cX9_noThere 3 (some .boolean) [] 2 59) (a0 : Nat) (a1 : Int) (a2 : Int) (h : HP) : vv M G h0 3 (hp_End M G h0) jI h 0 [(0, LR (some a0)), (1, LI a1), (2, LI a2)] [] (f_X9_noThere a0 a1 a2 h) := by
  unfold f_X9_noThere
  refine vv_aload_n (pc := 0) X (kf := 0) (i := 0) rfl 0 rfl dX9_noThere_0 ?_
  refine vv_iload_n (pc := 1) X (kf := 1) (i := 1) rfl 1 rfl dX9_noThere_1 ?_
  refine vv_rcv (fun b3 t9 c9 fs9 e4 g9 k9 => ?_)
  cases List.mem_singleton.mp k9
  refine vv_callI (pc := 2) (rest := []) (by rw [e4]; rfl) (fun r8 k8 e8 => zz_callV X (m_X9_noPattern (hlM X) _ _ _ _ _ e8) g9 rfl rfl q3876 q3878 qs113 q164 q3879 nh_X9 rfl (by decide) (by decide) (Nat.le_of_ble_eq_true rfl) dX9_noThere_2) (fun v1 h2 => ?_)
  refine vv_if_ne (pc := 5) (tgt := 16) X dX9_noThere_5 rfl ?_ ?_
  · exact vv_sub [] (by rfl) (B_X9_noThere_16 X _)
  · refine vv_aload_n (pc := 8) X (kf := 0) (i := 0) rfl 0 rfl dX9_noThere_8 ?_
    refine vv_iload_n (pc := 9) X (kf := 2) (i := 2) rfl 2 rfl dX9_noThere_9 ?_
    refine vv_rcv (fun b7 t9 c9 fs9 e8 g9 k9 => ?_)
    cases List.mem_singleton.mp k9
    refine vv_callI (pc := 10) (rest := []) (by rw [e8]; rfl) (fun r8 k8 e8 => zz_callV X (m_X9_noPlace (hlM X) _ _ _ _ _ e8) g9 rfl rfl q3860 q3862 qs112 q164 q3863 nh_X9 rfl (by decide) (by decide) (Nat.le_of_ble_eq_true rfl) dX9_noThere_10) (fun v5 h6 => ?_)
    refine vv_if_eq (pc := 13) (tgt := 20) X dX9_noThere_13 rfl ?_ ?_
    · refine vv_iconst (pc := 20) X dX9_noThere_20 ?_
      exact vv_sub [] (by rfl) (B_X9_noThere_21 X _ _)
    · exact vv_sub [] (by rfl) (B_X9_noThere_16 X _)
theorem m_X9_noThere {l : Launch} (hl : l.stackTraces = false) {G : va_G} (a0 : Nat) (a1 : Int) (a2 : Int) (h : HP) : ∀ r hf, f_X9_noThere a0 a1 a2 h = some (r, hf) → Ct l yX9_noThere (ws_ yX9_noThere cX9_noThere 3 (some .boolean)) 2 59 G h [.ref a0, .int (iI a1), .int (iI a2)] (jI r) hf :=
  zz_ofW hl (by decide +kernel) (lv := [(0, LR (some a0)), (1, LI a1), (2, LI a2)]) (by simp [lv_args, lvL, lvV, zz_rfc, zz_rfs, zz_ci, zz_cr, zz_cj, zz_cf, zz_cd]) (by simp [lg_sl, zz_rfc, zz_ci, zz_cr, zz_cj, zz_cf, zz_cd]) (fun _ X => A_X9_noThere X a0 a1 a2 h)
-- X9_isAt RenamedWordsModel.isAt(II)Z
noncomputable def b_X9_isAt_28 (s0 : Int) (h : HP) : Option ((Int) × HP) :=
  rtZ s0 (some (s0, h))
theorem B_X9_isAt_28 {M : hp_M} {G : va_G} {h0 : HP} (X : hp_X M G h0 "RenamedWordsModel" "isAt" cX9_isAt 3 (some .boolean) [] 6 183) (s0 : Int) (h : HP) : vv M G h0 3 (hp_End M G h0) jI h 28 [] [LI s0] (b_X9_isAt_28 s0 h) := by
  unfold b_X9_isAt_28
  exact vv_iretZ X rfl rfl dX9_isAt_28
noncomputable def b_X9_isAt_27 (h : HP) : Option ((Int) × HP) :=
  b_X9_isAt_28 0 h
theorem B_X9_isAt_27 {M : hp_M} {G : va_G} {h0 : HP} (X : hp_X M G h0 "RenamedWordsModel" "isAt" cX9_isAt 3 (some .boolean) [] 6 183) (h : HP) : vv M G h0 3 (hp_End M G h0) jI h 27 [] [] (b_X9_isAt_27 h) := by
  unfold b_X9_isAt_27
  refine vv_iconst (pc := 27) X dX9_isAt_27 ?_
  exact B_X9_isAt_28 X _ _
noncomputable def f_X9_isAt (a0 : Nat) (a1 : Int) (a2 : Int) (h : HP) : Option ((Int) × HP) :=
  (wrI h (some a0) [7] 7 0).bind fun h1 =>
  (rcv h1 (some a0) [7]).bind fun b4 =>
  hb (f_X9_noThere b4 a1 a2 h1) fun v2 h3 =>
  iEQ v2 0
    ((rcv h3 (some a0) [7]).bind fun b8 =>
    hb (f_X9_isThere b8 a1 a2 h3) fun v6 h7 =>
    iEQ v6 0
      (b_X9_isAt_27 h7)
      (b_X9_isAt_28 1 h7))
    (b_X9_isAt_27 h3)
theorem A_X9_isAt {M : hp_M} {G : va_G} {h0 : HP} (X : hp_X M G h0 "RenamedWordsModel" "isAt" cX9_isAt 3 (some .boolean) [] 6 183) (a0 : Nat) (a1 : Int) (a2 : Int) (h : HP) : vv M G h0 3 (hp_End M G h0) jI h 0 [(0, LR (some a0)), (1, LI a1), (2, LI a2)] [] (f_X9_isAt a0 a1 a2 h) := by
  unfold f_X9_isAt
  refine vv_aload_n (pc := 0) X (kf := 0) (i := 0) rfl 0 rfl dX9_isAt_0 ?_
  refine vv_iconst (pc := 1) X dX9_isAt_1 ?_
  refine vv_putI (pc := 2) (fin := false) X (fun _ z => by cases List.mem_singleton.mp z; exact fl_X9_69_7) (fun z => nomatch z) (fun z => nomatch z) dX9_isAt_2 (fun h1 => ?_)
  refine vv_aload_n (pc := 5) X (kf := 0) (i := 0) rfl 0 rfl dX9_isAt_5 ?_
  refine vv_iload_n (pc := 6) X (kf := 1) (i := 1) rfl 1 rfl dX9_isAt_6 ?_
  refine vv_iload_n (pc := 7) X (kf := 2) (i := 2) rfl 2 rfl dX9_isAt_7 ?_
  refine vv_rcv (fun b4 t9 c9 fs9 e5 g9 k9 => ?_)
  cases List.mem_singleton.mp k9
  refine vv_callI (pc := 8) (rest := []) (by rw [e5]; rfl) (fun r8 k8 e8 => zz_callV X (m_X9_noThere (hlM X) _ _ _ _ _ _ e8) g9 rfl rfl q3942 q3944 qs120 q164 q3945 nh_X9 rfl (by decide) (by decide) (Nat.le_of_ble_eq_true rfl) dX9_isAt_8) (fun v2 h3 => ?_)
  refine vv_if_ne (pc := 11) (tgt := 27) X dX9_isAt_11 rfl ?_ ?_
  · exact vv_sub [] (by rfl) (B_X9_isAt_27 X _)
  · refine vv_aload_n (pc := 14) X (kf := 0) (i := 0) rfl 0 rfl dX9_isAt_14 ?_
    refine vv_iload_n (pc := 15) X (kf := 1) (i := 1) rfl 1 rfl dX9_isAt_15 ?_
    refine vv_iload_n (pc := 16) X (kf := 2) (i := 2) rfl 2 rfl dX9_isAt_16 ?_
    refine vv_rcv (fun b8 t9 c9 fs9 e9 g9 k9 => ?_)
    cases List.mem_singleton.mp k9
    refine vv_callI (pc := 17) (rest := []) (by rw [e9]; rfl) (fun r8 k8 e8 => zz_callV X (m_X9_isThere (hlM X) _ _ _ _ _ _ e8) g9 rfl rfl q3763 q3765 qs92 q164 q3766 nh_X9 rfl (by decide) (by decide) (Nat.le_of_ble_eq_true rfl) dX9_isAt_17) (fun v6 h7 => ?_)
    refine vv_if_eq (pc := 20) (tgt := 27) X dX9_isAt_20 rfl ?_ ?_
    · exact vv_sub [] (by rfl) (B_X9_isAt_27 X _)
    · refine vv_iconst (pc := 23) X dX9_isAt_23 ?_
      refine vv_goto (pc := 24) (tgt := 28) X dX9_isAt_24 rfl ?_
      exact vv_sub [] (by rfl) (B_X9_isAt_28 X _ _)
theorem m_X9_isAt {l : Launch} (hl : l.stackTraces = false) {G : va_G} (a0 : Nat) (a1 : Int) (a2 : Int) (h : HP) : ∀ r hf, f_X9_isAt a0 a1 a2 h = some (r, hf) → Ct l yX9_isAt (ws_ yX9_isAt cX9_isAt 3 (some .boolean)) 6 183 G h [.ref a0, .int (iI a1), .int (iI a2)] (jI r) hf :=
  zz_ofW hl (by decide +kernel) (lv := [(0, LR (some a0)), (1, LI a1), (2, LI a2)]) (by simp [lv_args, lvL, lvV, zz_rfc, zz_rfs, zz_ci, zz_cr, zz_cj, zz_cf, zz_cd]) (by simp [lg_sl, zz_rfc, zz_ci, zz_cr, zz_cj, zz_cf, zz_cd]) (fun _ X => A_X9_isAt X a0 a1 a2 h)
-- X2_longest RenamedWords$Desk.longest(II)I
noncomputable def f_X2_longest (a0 : Nat) (a1 : Int) (a2 : Int) (h : HP) : Option ((Int) × HP) :=
  (rdR h (some a0) [1] 2).bind fun v1 =>
  (aldR h "RenamedWords$Word" v1 a1).bind fun v2 =>
  (rcv h v2 [11]).bind fun b5 =>
  hb (f_X14_many b5 h) fun v3 h4 =>
  (rdR h4 (some a0) [1] 0).bind fun v7 =>
  (rdI h4 v7 [3] 3).bind fun v8 =>
  hb (f_J14_min v3 (v8 - a2) h4) fun v9 h10 =>
  (rdR h10 (some a0) [1] 5).bind fun v11 =>
  (rdR h10 (some a0) [1] 0).bind fun v12 =>
  (rcv h10 v11 [5]).bind fun b15 =>
  hb (f_X7_lays b15 v12 a2 v9 h10) fun v13 h14 =>
  (rdI h14 (some a0) [1] 7).bind fun v17 =>
  hb (f_X1_differsAt v2 v13 v9 v17 h14) fun v18 h19 =>
  some (v18, h19)
theorem A_X2_longest {M : hp_M} {G : va_G} {h0 : HP} (X : hp_X M G h0 "RenamedWords$Desk" "longest" cX2_longest 5 (some .int) [] 6 183) (a0 : Nat) (a1 : Int) (a2 : Int) (h : HP) : vv M G h0 5 (hp_End M G h0) jI h 0 [(0, LR (some a0)), (1, LI a1), (2, LI a2)] [] (f_X2_longest a0 a1 a2 h) := by
  unfold f_X2_longest
  refine vv_aload_n (pc := 0) X (kf := 0) (i := 0) rfl 0 rfl dX2_longest_0 ?_
  refine vv_getR (pc := 1) X (fun _ z => by cases List.mem_singleton.mp z; exact fl_X2_20_1) dX2_longest_1 (fun v1 => ?_)
  refine vv_iload_n (pc := 4) X (kf := 1) (i := 1) rfl 1 rfl dX2_longest_4 ?_
  refine vv_aaload (pc := 5) X dX2_longest_5 (fun v2 => ?_)
  refine vv_astore_n (pc := 6) (lv' := [(3, LR v2), (0, LR (some a0)), (1, LI a1), (2, LI a2)]) X (kf := 3) (i := 3) rfl (by decide) rfl dX2_longest_6 ?_
  refine vv_aload_n (pc := 7) X (kf := 3) (i := 3) rfl 0 rfl dX2_longest_7 ?_
  refine vv_rcv (fun b5 t9 c9 fs9 e6 g9 k9 => ?_)
  cases List.mem_singleton.mp k9
  refine vv_callI (pc := 8) (rest := []) (by rw [e6]; rfl) (fun r8 k8 e8 => zz_callV X (m_X14_many (hlM X) _ _ _ _ e8) g9 rfl rfl q2600 q2601 q2602 q174 q2603 nh_X14 rfl (by decide) (by decide) (Nat.le_of_ble_eq_true rfl) dX2_longest_8) (fun v3 h4 => ?_)
  refine vv_aload_n (pc := 11) X (kf := 0) (i := 0) rfl 1 rfl dX2_longest_11 ?_
  refine vv_getR (pc := 12) X (fun _ z => by cases List.mem_singleton.mp z; exact fl_X2_12_1) dX2_longest_12 (fun v7 => ?_)
  refine vv_getI (pc := 15) X (fun _ z => by cases List.mem_singleton.mp z; exact fl_X2_123_3) dX2_longest_15 (fun v8 => ?_)
  refine vv_iload_n (pc := 18) X (kf := 2) (i := 2) rfl 3 rfl dX2_longest_18 ?_
  refine vv_isub (pc := 19) X dX2_longest_19 ?_
  refine vv_callI (pc := 20) (rest := []) (by rfl) (fun r8 k8 e8 => zz_callS X (m_J14_min (hlM X) _ _ _ _ _ e8) q3220 q392 q149 q393 nh_J14 rfl (by decide) (by decide) (Nat.le_of_ble_eq_true rfl) dX2_longest_20) (fun v9 h10 => ?_)
  refine vv_istore (pc := 23) (lv' := [(4, LI v9), (3, LR v2), (0, LR (some a0)), (1, LI a1), (2, LI a2)]) X (by decide) rfl dX2_longest_23 ?_
  refine vv_aload_n (pc := 25) X (kf := 3) (i := 3) rfl 1 rfl dX2_longest_25 ?_
  refine vv_aload_n (pc := 26) X (kf := 0) (i := 0) rfl 2 rfl dX2_longest_26 ?_
  refine vv_getR (pc := 27) X (fun _ z => by cases List.mem_singleton.mp z; exact fl_X2_38_1) dX2_longest_27 (fun v11 => ?_)
  refine vv_aload_n (pc := 30) X (kf := 0) (i := 0) rfl 2 rfl dX2_longest_30 ?_
  refine vv_getR (pc := 31) X (fun _ z => by cases List.mem_singleton.mp z; exact fl_X2_12_1) dX2_longest_31 (fun v12 => ?_)
  refine vv_iload_n (pc := 34) X (kf := 2) (i := 2) rfl 4 rfl dX2_longest_34 ?_
  refine vv_iload (pc := 35) X 0 rfl dX2_longest_35 ?_
  refine vv_rcv (fun b15 t9 c9 fs9 e16 g9 k9 => ?_)
  cases List.mem_singleton.mp k9
  refine vv_callR (pc := 37) (rest := [LR v2]) (by rw [e16]; rfl) (fun r8 k8 e8 => zz_callV X (m_X7_lays (hlM X) _ _ _ _ _ _ _ e8) g9 rfl rfl q2604 q2605 q2606 q159 q2607 nh_X7 rfl (by decide) (by decide) (Nat.le_of_ble_eq_true rfl) dX2_longest_37) (fun v13 h14 => ?_)
  refine vv_iload (pc := 40) X 0 rfl dX2_longest_40 ?_
  refine vv_aload_n (pc := 42) X (kf := 0) (i := 0) rfl 2 rfl dX2_longest_42 ?_
  refine vv_getI (pc := 43) X (fun _ z => by cases List.mem_singleton.mp z; exact fl_X2_108_1) dX2_longest_43 (fun v17 => ?_)
  refine vv_callI (pc := 46) (rest := []) (by rfl) (fun r8 k8 e8 => zz_callSN X (m_X1_differsAt (hlM X) _ _ _ _ _ _ _ e8) q2952 q2622 q132 q2623 nh_X1 rfl (by decide) (by decide) (Nat.le_of_ble_eq_true rfl) dX2_longest_46) (fun v18 h19 => ?_)
  exact vv_iretI X rfl rfl dX2_longest_49
theorem m_X2_longest {l : Launch} (hl : l.stackTraces = false) {G : va_G} (a0 : Nat) (a1 : Int) (a2 : Int) (h : HP) : ∀ r hf, f_X2_longest a0 a1 a2 h = some (r, hf) → Ct l yX2_longest (ws_ yX2_longest cX2_longest 5 (some .int)) 6 183 G h [.ref a0, .int (iI a1), .int (iI a2)] (jI r) hf :=
  zz_ofW hl (by decide +kernel) (lv := [(0, LR (some a0)), (1, LI a1), (2, LI a2)]) (by simp [lv_args, lvL, lvV, zz_rfc, zz_rfs, zz_ci, zz_cr, zz_cj, zz_cf, zz_cd]) (by simp [lg_sl, zz_rfc, zz_ci, zz_cr, zz_cj, zz_cf, zz_cd]) (fun _ X => A_X2_longest X a0 a1 a2 h)
