/-! STAGE 1c: functions and contracts (printed by gen/mkfuncs.py). -/
set_option maxRecDepth 100000
set_option linter.unusedVariables false
-- X9_newPattern RenamedWordsModel.newPattern()V
noncomputable def b_X9_newPattern_59 (h : HP) : Option ((Unit) × HP) :=
  some ((), h)
theorem B_X9_newPattern_59 {M : hp_M} {G : va_G} {h0 : HP} (X : hp_X M G h0 "RenamedWordsModel" "newPattern" cX9_newPattern 3 none [] 3 88) (h : HP) : vv M G h0 3 (hp_End M G h0) jV h 59 [] [] (b_X9_newPattern_59 h) := by
  unfold b_X9_newPattern_59
  exact vv_vreturn X rfl rfl dX9_newPattern_59
noncomputable def b_X9_newPattern_152 (h : HP) : Option ((Unit) × HP) :=
  some ((), h)
theorem B_X9_newPattern_152 {M : hp_M} {G : va_G} {h0 : HP} (X : hp_X M G h0 "RenamedWordsModel" "newPattern" cX9_newPattern 3 none [] 3 88) (h : HP) : vv M G h0 3 (hp_End M G h0) jV h 152 [] [] (b_X9_newPattern_152 h) := by
  unfold b_X9_newPattern_152
  exact vv_vreturn X rfl rfl dX9_newPattern_152
noncomputable def c_X9_newPattern_165 (r165 : Option Nat → Int → Int → HP → Option ((Unit) × HP)) (x0 : Option Nat) (x1 : Int) (x2 : Int) (h : HP) : Option ((Unit) × HP) :=
  (rcv h x0 [7]).bind fun b62 =>
  hb (f_X9_length b62 h) fun v60 h61 =>
  iLE v60 x2
    ((rdR h61 x0 [7] 0).bind fun v64 =>
    (aldI h61 .int v64 2).bind fun v65 =>
    (astI h61 .int v64 2 (v65 + 1)).bind fun h66 =>
    (rcv h66 x0 [7]).bind fun b69 =>
    hb (f_X9_advance b69 h66) fun _ h68 =>
    some ((), h68))
    ((rdR h61 x0 [7] 11).bind fun v71 =>
    (rdI h61 x0 [7] 13).bind fun v72 =>
    (aldI h61 .int v71 (v72 + x2)).bind fun v73 =>
    (rcv h61 x0 [7]).bind fun b76 =>
    hb (f_X9_puts b76 x1 (10 + x2) (v73 - 97) h61) fun _ h75 =>
    r165 x0 x1 (x2 + 1) h75)
noncomputable def b_X9_newPattern_165 : Option Nat → Int → Int → HP → Option ((Unit) × HP) := fx (fun _ _ _ _ => none) (c_X9_newPattern_165) FU
theorem C_X9_newPattern_165 {M : hp_M} {G : va_G} {h0 : HP} (X : hp_X M G h0 "RenamedWordsModel" "newPattern" cX9_newPattern 3 none [] 3 88) (r165 : Option Nat → Int → Int → HP → Option ((Unit) × HP)) (hr165 : ∀ (y0 : Option Nat) (y1 : Int) (y2 : Int) (h : HP), vv M G h0 3 (hp_End M G h0) jV h 165 [(0, LR y0), (1, LI y1), (2, LI y2)] [] (r165 y0 y1 y2 h)) (x0 : Option Nat) (x1 : Int) (x2 : Int) (h : HP) : vv M G h0 3 (hp_End M G h0) jV h 165 [(0, LR x0), (1, LI x1), (2, LI x2)] [] (c_X9_newPattern_165 r165 x0 x1 x2 h) := by
  unfold c_X9_newPattern_165
  refine vv_iload_n (pc := 165) X (kf := 2) (i := 2) rfl 2 rfl dX9_newPattern_165 ?_
  refine vv_aload_n (pc := 166) X (kf := 0) (i := 0) rfl 0 rfl dX9_newPattern_166 ?_
  refine vv_rcv (fun b62 t9 c9 fs9 e63 g9 k9 => ?_)
  cases List.mem_singleton.mp k9
  refine vv_callI (pc := 167) (rest := [LI x2]) (by rw [e63]; rfl) (fun r8 k8 e8 => zz_callV X (m_X9_length (hlM X) _ _ _ _ e8) g9 rfl rfl q3606 q3608 qs58 q164 q3609 nh_X9 rfl (by decide) (by decide) (Nat.le_of_ble_eq_true rfl) dX9_newPattern_167) (fun v60 h61 => ?_)
  refine vv_icmp_ge (pc := 170) (tgt := 202) X dX9_newPattern_170 rfl ?_ ?_
  · refine vv_aload_n (pc := 202) X (kf := 0) (i := 0) rfl 0 rfl dX9_newPattern_202 ?_
    refine vv_getR (pc := 203) X (fun _ z => by cases List.mem_singleton.mp z; exact fl_X9_9_7) dX9_newPattern_203 (fun v64 => ?_)
    refine vv_iconst (pc := 206) X dX9_newPattern_206 ?_
    refine vv_dup2 (pc := 207) X rfl rfl dX9_newPattern_207 ?_
    refine vv_iaload (pc := 208) X dX9_newPattern_208 (fun v65 => ?_)
    refine vv_iconst (pc := 209) X dX9_newPattern_209 ?_
    refine vv_iadd (pc := 210) X dX9_newPattern_210 ?_
    refine vv_iastore (pc := 211) X dX9_newPattern_211 (fun h66 => ?_)
    refine vv_aload_n (pc := 212) X (kf := 0) (i := 0) rfl 0 rfl dX9_newPattern_212 ?_
    refine vv_rcv (fun b69 t9 c9 fs9 e70 g9 k9 => ?_)
    cases List.mem_singleton.mp k9
    refine vv_callV (pc := 213) (rest := []) (by rw [e70]; rfl) (fun r8 k8 e8 => zz_callV X (m_X9_advance (hlM X) _ _ _ _ e8) g9 rfl rfl q3581 q3583 qs53 q164 q3584 nh_X9 rfl (by decide) (by decide) (Nat.le_of_ble_eq_true rfl) dX9_newPattern_213) (fun v67 h68 => ?_)
    exact vv_vreturn X rfl rfl dX9_newPattern_216
  · refine vv_aload_n (pc := 173) X (kf := 0) (i := 0) rfl 0 rfl dX9_newPattern_173 ?_
    refine vv_iload_n (pc := 174) X (kf := 1) (i := 1) rfl 1 rfl dX9_newPattern_174 ?_
    refine vv_bipush (pc := 175) X (by decide) dX9_newPattern_175 ?_
    refine vv_iload_n (pc := 177) X (kf := 2) (i := 2) rfl 2 rfl dX9_newPattern_177 ?_
    refine vv_iadd (pc := 178) X dX9_newPattern_178 ?_
    refine vv_aload_n (pc := 179) X (kf := 0) (i := 0) rfl 0 rfl dX9_newPattern_179 ?_
    refine vv_getR (pc := 180) X (fun _ z => by cases List.mem_singleton.mp z; exact fl_X9_38_7) dX9_newPattern_180 (fun v71 => ?_)
    refine vv_aload_n (pc := 183) X (kf := 0) (i := 0) rfl 0 rfl dX9_newPattern_183 ?_
    refine vv_getI (pc := 184) X (fun _ z => by cases List.mem_singleton.mp z; exact fl_X9_166_7) dX9_newPattern_184 (fun v72 => ?_)
    refine vv_iload_n (pc := 187) X (kf := 2) (i := 2) rfl 2 rfl dX9_newPattern_187 ?_
    refine vv_iadd (pc := 188) X dX9_newPattern_188 ?_
    refine vv_iaload (pc := 189) X dX9_newPattern_189 (fun v73 => ?_)
    refine vv_bipush (pc := 190) X (by decide) dX9_newPattern_190 ?_
    refine vv_isub (pc := 192) X dX9_newPattern_192 ?_
    refine vv_rcv (fun b76 t9 c9 fs9 e77 g9 k9 => ?_)
    cases List.mem_singleton.mp k9
    refine vv_callV (pc := 193) (rest := []) (by rw [e77]; rfl) (fun r8 k8 e8 => zz_callV X (m_X9_puts (hlM X) _ _ _ _ _ _ _ e8) g9 rfl rfl q3641 q3643 qs66 q164 q3644 nh_X9 rfl (by decide) (by decide) (Nat.le_of_ble_eq_true rfl) dX9_newPattern_193) (fun v74 h75 => ?_)
    refine vv_iinc (pc := 196) (lv' := [(2, LI (x2 + 1)), (0, LR x0), (1, LI x1)]) X 2 rfl (by decide) rfl dX9_newPattern_196 ?_
    refine vv_goto (pc := 199) (tgt := 165) X dX9_newPattern_199 rfl ?_
    exact vv_sub [1, 2, 0] (by rfl) (hr165 _ _ _ _)
theorem B_X9_newPattern_165 {M : hp_M} {G : va_G} {h0 : HP} (X : hp_X M G h0 "RenamedWordsModel" "newPattern" cX9_newPattern 3 none [] 3 88) : ∀ (x0 : Option Nat) (x1 : Int) (x2 : Int) (h : HP), vv M G h0 3 (hp_End M G h0) jV h 165 [(0, LR x0), (1, LI x1), (2, LI x2)] [] (b_X9_newPattern_165 x0 x1 x2 h) := by
  unfold b_X9_newPattern_165
  generalize FU = n
  induction n with
  | zero => intro x0 x1 x2 h; exact vv_none
  | succ n ih => exact C_X9_newPattern_165 X _ ih
noncomputable def b_X9_newPattern_145 (x0 : Option Nat) (x1 : Int) (s0 : Int) (s1 : Option Nat) (h : HP) : Option ((Unit) × HP) :=
  (rcv h s1 [7]).bind fun b50 =>
  hb (f_X9_faulty b50 s0 2 h) fun v48 h49 =>
  iEQ v48 0
    ((rcv h49 x0 [7]).bind fun b54 =>
    hb (f_X9_length b54 h49) fun v52 h53 =>
    (rcv h53 x0 [7]).bind fun b58 =>
    hb (f_X9_puts b58 x1 0 v52 h53) fun _ h57 =>
    b_X9_newPattern_165 x0 x1 0 h57)
    (b_X9_newPattern_152 h49)
theorem B_X9_newPattern_145 {M : hp_M} {G : va_G} {h0 : HP} (X : hp_X M G h0 "RenamedWordsModel" "newPattern" cX9_newPattern 3 none [] 3 88) (x0 : Option Nat) (x1 : Int) (s0 : Int) (s1 : Option Nat) (h : HP) : vv M G h0 3 (hp_End M G h0) jV h 145 [(0, LR x0), (1, LI x1)] [LI s0, LR s1] (b_X9_newPattern_145 x0 x1 s0 s1 h) := by
  unfold b_X9_newPattern_145
  refine vv_iconst (pc := 145) X dX9_newPattern_145 ?_
  refine vv_rcv (fun b50 t9 c9 fs9 e51 g9 k9 => ?_)
  cases List.mem_singleton.mp k9
  refine vv_callI (pc := 146) (rest := []) (by rw [e51]; rfl) (fun r8 k8 e8 => zz_callV X (m_X9_faulty (hlM X) _ _ _ _ _ _ e8) g9 rfl rfl q3612 q3614 qs59 q164 q3615 nh_X9 rfl (by decide) (by decide) (Nat.le_of_ble_eq_true rfl) dX9_newPattern_146) (fun v48 h49 => ?_)
  refine vv_if_eq (pc := 149) (tgt := 153) X dX9_newPattern_149 rfl ?_ ?_
  · refine vv_aload_n (pc := 153) X (kf := 0) (i := 0) rfl 0 rfl dX9_newPattern_153 ?_
    refine vv_iload_n (pc := 154) X (kf := 1) (i := 1) rfl 1 rfl dX9_newPattern_154 ?_
    refine vv_iconst (pc := 155) X dX9_newPattern_155 ?_
    refine vv_aload_n (pc := 156) X (kf := 0) (i := 0) rfl 0 rfl dX9_newPattern_156 ?_
    refine vv_rcv (fun b54 t9 c9 fs9 e55 g9 k9 => ?_)
    cases List.mem_singleton.mp k9
    refine vv_callI (pc := 157) (rest := [LI 0, LI x1, LR x0]) (by rw [e55]; rfl) (fun r8 k8 e8 => zz_callV X (m_X9_length (hlM X) _ _ _ _ e8) g9 rfl rfl q3606 q3608 qs58 q164 q3609 nh_X9 rfl (by decide) (by decide) (Nat.le_of_ble_eq_true rfl) dX9_newPattern_157) (fun v52 h53 => ?_)
    refine vv_rcv (fun b58 t9 c9 fs9 e59 g9 k9 => ?_)
    cases List.mem_singleton.mp k9
    refine vv_callV (pc := 160) (rest := []) (by rw [e59]; rfl) (fun r8 k8 e8 => zz_callV X (m_X9_puts (hlM X) _ _ _ _ _ _ _ e8) g9 rfl rfl q3641 q3643 qs66 q164 q3644 nh_X9 rfl (by decide) (by decide) (Nat.le_of_ble_eq_true rfl) dX9_newPattern_160) (fun v56 h57 => ?_)
    refine vv_iconst (pc := 163) X dX9_newPattern_163 ?_
    refine vv_istore_n (pc := 164) (lv' := [(2, LI 0), (0, LR x0), (1, LI x1)]) X (kf := 2) (i := 2) rfl (by decide) rfl dX9_newPattern_164 ?_
    exact vv_sub [1, 2, 0] (by rfl) (B_X9_newPattern_165 X _ _ _ _)
  · exact vv_sub [] (by rfl) (B_X9_newPattern_152 X _)
noncomputable def b_X9_newPattern_123 (x0 : Option Nat) (x1 : Int) (s0 : Int) (s1 : Option Nat) (h : HP) : Option ((Unit) × HP) :=
  (rcv h s1 [7]).bind fun b42 =>
  hb (f_X9_faulty b42 s0 1 h) fun v40 h41 =>
  iEQ v40 0
    ((rcv h41 x0 [7]).bind fun b46 =>
    hb (f_X9_length b46 h41) fun v44 h45 =>
    iLE v44 20
      (b_X9_newPattern_145 x0 x1 0 x0 h45)
      (b_X9_newPattern_145 x0 x1 1 x0 h45))
    (b_X9_newPattern_152 h41)
theorem B_X9_newPattern_123 {M : hp_M} {G : va_G} {h0 : HP} (X : hp_X M G h0 "RenamedWordsModel" "newPattern" cX9_newPattern 3 none [] 3 88) (x0 : Option Nat) (x1 : Int) (s0 : Int) (s1 : Option Nat) (h : HP) : vv M G h0 3 (hp_End M G h0) jV h 123 [(0, LR x0), (1, LI x1)] [LI s0, LR s1] (b_X9_newPattern_123 x0 x1 s0 s1 h) := by
  unfold b_X9_newPattern_123
  refine vv_iconst (pc := 123) X dX9_newPattern_123 ?_
  refine vv_rcv (fun b42 t9 c9 fs9 e43 g9 k9 => ?_)
  cases List.mem_singleton.mp k9
  refine vv_callI (pc := 124) (rest := []) (by rw [e43]; rfl) (fun r8 k8 e8 => zz_callV X (m_X9_faulty (hlM X) _ _ _ _ _ _ e8) g9 rfl rfl q3612 q3614 qs59 q164 q3615 nh_X9 rfl (by decide) (by decide) (Nat.le_of_ble_eq_true rfl) dX9_newPattern_124) (fun v40 h41 => ?_)
  refine vv_if_ne (pc := 127) (tgt := 152) X dX9_newPattern_127 rfl ?_ ?_
  · exact vv_sub [] (by rfl) (B_X9_newPattern_152 X _)
  · refine vv_aload_n (pc := 130) X (kf := 0) (i := 0) rfl 0 rfl dX9_newPattern_130 ?_
    refine vv_aload_n (pc := 131) X (kf := 0) (i := 0) rfl 0 rfl dX9_newPattern_131 ?_
    refine vv_rcv (fun b46 t9 c9 fs9 e47 g9 k9 => ?_)
    cases List.mem_singleton.mp k9
    refine vv_callI (pc := 132) (rest := [LR x0]) (by rw [e47]; rfl) (fun r8 k8 e8 => zz_callV X (m_X9_length (hlM X) _ _ _ _ e8) g9 rfl rfl q3606 q3608 qs58 q164 q3609 nh_X9 rfl (by decide) (by decide) (Nat.le_of_ble_eq_true rfl) dX9_newPattern_132) (fun v44 h45 => ?_)
    refine vv_bipush (pc := 135) X (by decide) dX9_newPattern_135 ?_
    refine vv_icmp_le (pc := 137) (tgt := 144) X dX9_newPattern_137 rfl ?_ ?_
    · refine vv_iconst (pc := 144) X dX9_newPattern_144 ?_
      exact B_X9_newPattern_145 X _ _ _ _ _
    · refine vv_iconst (pc := 140) X dX9_newPattern_140 ?_
      refine vv_goto (pc := 141) (tgt := 145) X dX9_newPattern_141 rfl ?_
      exact B_X9_newPattern_145 X _ _ _ _ _
noncomputable def c_X9_newPattern_72 (r72 : Option Nat → Int → Int → HP → Option ((Unit) × HP)) (x0 : Option Nat) (x1 : Int) (x2 : Int) (h : HP) : Option ((Unit) × HP) :=
  (rcv h x0 [7]).bind fun b33 =>
  hb (f_X9_length b33 h) fun v31 h32 =>
  iLE v31 x2
    ((rcv h32 x0 [7]).bind fun b37 =>
    hb (f_X9_advance b37 h32) fun _ h36 =>
    (rdI h36 x0 [7] 15).bind fun v39 =>
    iEQ v39 1
      (b_X9_newPattern_123 x0 x1 0 x0 h36)
      (b_X9_newPattern_123 x0 x1 1 x0 h36))
    ((rdR h32 x0 [7] 11).bind fun v78 =>
    (rdI h32 x0 [7] 13).bind fun v79 =>
    (aldI h32 .int v78 (v79 + x2)).bind fun v80 =>
    (rcv h32 x0 [7]).bind fun b83 =>
    hb (f_X9_puts b83 x1 (2 + x2) v80 h32) fun _ h82 =>
    r72 x0 x1 (x2 + 1) h82)
noncomputable def b_X9_newPattern_72 : Option Nat → Int → Int → HP → Option ((Unit) × HP) := fx (fun _ _ _ _ => none) (c_X9_newPattern_72) FU
theorem C_X9_newPattern_72 {M : hp_M} {G : va_G} {h0 : HP} (X : hp_X M G h0 "RenamedWordsModel" "newPattern" cX9_newPattern 3 none [] 3 88) (r72 : Option Nat → Int → Int → HP → Option ((Unit) × HP)) (hr72 : ∀ (y0 : Option Nat) (y1 : Int) (y2 : Int) (h : HP), vv M G h0 3 (hp_End M G h0) jV h 72 [(0, LR y0), (1, LI y1), (2, LI y2)] [] (r72 y0 y1 y2 h)) (x0 : Option Nat) (x1 : Int) (x2 : Int) (h : HP) : vv M G h0 3 (hp_End M G h0) jV h 72 [(0, LR x0), (1, LI x1), (2, LI x2)] [] (c_X9_newPattern_72 r72 x0 x1 x2 h) := by
  unfold c_X9_newPattern_72
  refine vv_iload_n (pc := 72) X (kf := 2) (i := 2) rfl 2 rfl dX9_newPattern_72 ?_
  refine vv_aload_n (pc := 73) X (kf := 0) (i := 0) rfl 0 rfl dX9_newPattern_73 ?_
  refine vv_rcv (fun b33 t9 c9 fs9 e34 g9 k9 => ?_)
  cases List.mem_singleton.mp k9
  refine vv_callI (pc := 74) (rest := [LI x2]) (by rw [e34]; rfl) (fun r8 k8 e8 => zz_callV X (m_X9_length (hlM X) _ _ _ _ e8) g9 rfl rfl q3606 q3608 qs58 q164 q3609 nh_X9 rfl (by decide) (by decide) (Nat.le_of_ble_eq_true rfl) dX9_newPattern_74) (fun v31 h32 => ?_)
  refine vv_icmp_ge (pc := 77) (tgt := 105) X dX9_newPattern_77 rfl ?_ ?_
  · refine vv_aload_n (pc := 105) X (kf := 0) (i := 0) rfl 0 rfl dX9_newPattern_105 ?_
    refine vv_rcv (fun b37 t9 c9 fs9 e38 g9 k9 => ?_)
    cases List.mem_singleton.mp k9
    refine vv_callV (pc := 106) (rest := []) (by rw [e38]; rfl) (fun r8 k8 e8 => zz_callV X (m_X9_advance (hlM X) _ _ _ _ e8) g9 rfl rfl q3581 q3583 qs53 q164 q3584 nh_X9 rfl (by decide) (by decide) (Nat.le_of_ble_eq_true rfl) dX9_newPattern_106) (fun v35 h36 => ?_)
    refine vv_aload_n (pc := 109) X (kf := 0) (i := 0) rfl 0 rfl dX9_newPattern_109 ?_
    refine vv_aload_n (pc := 110) X (kf := 0) (i := 0) rfl 0 rfl dX9_newPattern_110 ?_
    refine vv_getI (pc := 111) X (fun _ z => by cases List.mem_singleton.mp z; exact fl_X9_172_7) dX9_newPattern_111 (fun v39 => ?_)
    refine vv_iconst (pc := 114) X dX9_newPattern_114 ?_
    refine vv_icmp_eq (pc := 115) (tgt := 122) X dX9_newPattern_115 rfl ?_ ?_
    · refine vv_iconst (pc := 122) X dX9_newPattern_122 ?_
      exact vv_sub [0, 1] (by rfl) (B_X9_newPattern_123 X _ _ _ _ _)
    · refine vv_iconst (pc := 118) X dX9_newPattern_118 ?_
      refine vv_goto (pc := 119) (tgt := 123) X dX9_newPattern_119 rfl ?_
      exact vv_sub [0, 1] (by rfl) (B_X9_newPattern_123 X _ _ _ _ _)
  · refine vv_aload_n (pc := 80) X (kf := 0) (i := 0) rfl 0 rfl dX9_newPattern_80 ?_
    refine vv_iload_n (pc := 81) X (kf := 1) (i := 1) rfl 1 rfl dX9_newPattern_81 ?_
    refine vv_iconst (pc := 82) X dX9_newPattern_82 ?_
    refine vv_iload_n (pc := 83) X (kf := 2) (i := 2) rfl 2 rfl dX9_newPattern_83 ?_
    refine vv_iadd (pc := 84) X dX9_newPattern_84 ?_
    refine vv_aload_n (pc := 85) X (kf := 0) (i := 0) rfl 0 rfl dX9_newPattern_85 ?_
    refine vv_getR (pc := 86) X (fun _ z => by cases List.mem_singleton.mp z; exact fl_X9_38_7) dX9_newPattern_86 (fun v78 => ?_)
    refine vv_aload_n (pc := 89) X (kf := 0) (i := 0) rfl 0 rfl dX9_newPattern_89 ?_
    refine vv_getI (pc := 90) X (fun _ z => by cases List.mem_singleton.mp z; exact fl_X9_166_7) dX9_newPattern_90 (fun v79 => ?_)
    refine vv_iload_n (pc := 93) X (kf := 2) (i := 2) rfl 2 rfl dX9_newPattern_93 ?_
    refine vv_iadd (pc := 94) X dX9_newPattern_94 ?_
    refine vv_iaload (pc := 95) X dX9_newPattern_95 (fun v80 => ?_)
    refine vv_rcv (fun b83 t9 c9 fs9 e84 g9 k9 => ?_)
    cases List.mem_singleton.mp k9
    refine vv_callV (pc := 96) (rest := []) (by rw [e84]; rfl) (fun r8 k8 e8 => zz_callV X (m_X9_puts (hlM X) _ _ _ _ _ _ _ e8) g9 rfl rfl q3641 q3643 qs66 q164 q3644 nh_X9 rfl (by decide) (by decide) (Nat.le_of_ble_eq_true rfl) dX9_newPattern_96) (fun v81 h82 => ?_)
    refine vv_iinc (pc := 99) (lv' := [(2, LI (x2 + 1)), (0, LR x0), (1, LI x1)]) X 2 rfl (by decide) rfl dX9_newPattern_99 ?_
    refine vv_goto (pc := 102) (tgt := 72) X dX9_newPattern_102 rfl ?_
    exact vv_sub [1, 2, 0] (by rfl) (hr72 _ _ _ _)
theorem B_X9_newPattern_72 {M : hp_M} {G : va_G} {h0 : HP} (X : hp_X M G h0 "RenamedWordsModel" "newPattern" cX9_newPattern 3 none [] 3 88) : ∀ (x0 : Option Nat) (x1 : Int) (x2 : Int) (h : HP), vv M G h0 3 (hp_End M G h0) jV h 72 [(0, LR x0), (1, LI x1), (2, LI x2)] [] (b_X9_newPattern_72 x0 x1 x2 h) := by
  unfold b_X9_newPattern_72
  generalize FU = n
  induction n with
  | zero => intro x0 x1 x2 h; exact vv_none
  | succ n ih => exact C_X9_newPattern_72 X _ ih
noncomputable def b_X9_newPattern_52 (x0 : Option Nat) (x1 : Int) (s0 : Int) (s1 : Option Nat) (h : HP) : Option ((Unit) × HP) :=
  (rcv h s1 [7]).bind fun b21 =>
  hb (f_X9_faulty b21 s0 3 h) fun v19 h20 =>
  iEQ v19 0
    ((rcv h20 x0 [7]).bind fun b25 =>
    hb (f_X9_length b25 h20) fun v23 h24 =>
    (rcv h24 x0 [7]).bind fun b29 =>
    hb (f_X9_puts b29 x1 1 v23 h24) fun _ h28 =>
    b_X9_newPattern_72 x0 x1 0 h28)
    (b_X9_newPattern_59 h20)
theorem B_X9_newPattern_52 {M : hp_M} {G : va_G} {h0 : HP} (X : hp_X M G h0 "RenamedWordsModel" "newPattern" cX9_newPattern 3 none [] 3 88) (x0 : Option Nat) (x1 : Int) (s0 : Int) (s1 : Option Nat) (h : HP) : vv M G h0 3 (hp_End M G h0) jV h 52 [(0, LR x0), (1, LI x1)] [LI s0, LR s1] (b_X9_newPattern_52 x0 x1 s0 s1 h) := by
  unfold b_X9_newPattern_52
  refine vv_iconst (pc := 52) X dX9_newPattern_52 ?_
  refine vv_rcv (fun b21 t9 c9 fs9 e22 g9 k9 => ?_)
  cases List.mem_singleton.mp k9
  refine vv_callI (pc := 53) (rest := []) (by rw [e22]; rfl) (fun r8 k8 e8 => zz_callV X (m_X9_faulty (hlM X) _ _ _ _ _ _ e8) g9 rfl rfl q3612 q3614 qs59 q164 q3615 nh_X9 rfl (by decide) (by decide) (Nat.le_of_ble_eq_true rfl) dX9_newPattern_53) (fun v19 h20 => ?_)
  refine vv_if_eq (pc := 56) (tgt := 60) X dX9_newPattern_56 rfl ?_ ?_
  · refine vv_aload_n (pc := 60) X (kf := 0) (i := 0) rfl 0 rfl dX9_newPattern_60 ?_
    refine vv_iload_n (pc := 61) X (kf := 1) (i := 1) rfl 1 rfl dX9_newPattern_61 ?_
    refine vv_iconst (pc := 62) X dX9_newPattern_62 ?_
    refine vv_aload_n (pc := 63) X (kf := 0) (i := 0) rfl 0 rfl dX9_newPattern_63 ?_
    refine vv_rcv (fun b25 t9 c9 fs9 e26 g9 k9 => ?_)
    cases List.mem_singleton.mp k9
    refine vv_callI (pc := 64) (rest := [LI 1, LI x1, LR x0]) (by rw [e26]; rfl) (fun r8 k8 e8 => zz_callV X (m_X9_length (hlM X) _ _ _ _ e8) g9 rfl rfl q3606 q3608 qs58 q164 q3609 nh_X9 rfl (by decide) (by decide) (Nat.le_of_ble_eq_true rfl) dX9_newPattern_64) (fun v23 h24 => ?_)
    refine vv_rcv (fun b29 t9 c9 fs9 e30 g9 k9 => ?_)
    cases List.mem_singleton.mp k9
    refine vv_callV (pc := 67) (rest := []) (by rw [e30]; rfl) (fun r8 k8 e8 => zz_callV X (m_X9_puts (hlM X) _ _ _ _ _ _ _ e8) g9 rfl rfl q3641 q3643 qs66 q164 q3644 nh_X9 rfl (by decide) (by decide) (Nat.le_of_ble_eq_true rfl) dX9_newPattern_67) (fun v27 h28 => ?_)
    refine vv_iconst (pc := 70) X dX9_newPattern_70 ?_
    refine vv_istore_n (pc := 71) (lv' := [(2, LI 0), (0, LR x0), (1, LI x1)]) X (kf := 2) (i := 2) rfl (by decide) rfl dX9_newPattern_71 ?_
    exact vv_sub [1, 2, 0] (by rfl) (B_X9_newPattern_72 X _ _ _ _)
  · exact vv_sub [] (by rfl) (B_X9_newPattern_59 X _)
noncomputable def b_X9_newPattern_19 (x0 : Option Nat) (x1 : Int) (s0 : Int) (s1 : Option Nat) (h : HP) : Option ((Unit) × HP) :=
  (rcv h s1 [7]).bind fun b5 =>
  hb (f_X9_faulty b5 s0 5 h) fun v3 h4 =>
  iEQ v3 0
    ((rcv h4 x0 [7]).bind fun b9 =>
    hb (f_X9_advance b9 h4) fun _ h8 =>
    (rcv h8 x0 [7]).bind fun b13 =>
    hb (f_X9_noName b13 h8) fun v11 h12 =>
    iEQ v11 0
      ((rcv h12 x0 [7]).bind fun b17 =>
      hb (f_X9_found b17 h12) fun v15 h16 =>
      iEQ v15 (-1)
        (b_X9_newPattern_52 x0 x1 0 x0 h16)
        (b_X9_newPattern_52 x0 x1 1 x0 h16))
      (b_X9_newPattern_59 h12))
    (some ((), h4))
theorem B_X9_newPattern_19 {M : hp_M} {G : va_G} {h0 : HP} (X : hp_X M G h0 "RenamedWordsModel" "newPattern" cX9_newPattern 3 none [] 3 88) (x0 : Option Nat) (x1 : Int) (s0 : Int) (s1 : Option Nat) (h : HP) : vv M G h0 3 (hp_End M G h0) jV h 19 [(0, LR x0), (1, LI x1)] [LI s0, LR s1] (b_X9_newPattern_19 x0 x1 s0 s1 h) := by
  unfold b_X9_newPattern_19
  refine vv_iconst (pc := 19) X dX9_newPattern_19 ?_
  refine vv_rcv (fun b5 t9 c9 fs9 e6 g9 k9 => ?_)
  cases List.mem_singleton.mp k9
  refine vv_callI (pc := 20) (rest := []) (by rw [e6]; rfl) (fun r8 k8 e8 => zz_callV X (m_X9_faulty (hlM X) _ _ _ _ _ _ e8) g9 rfl rfl q3612 q3614 qs59 q164 q3615 nh_X9 rfl (by decide) (by decide) (Nat.le_of_ble_eq_true rfl) dX9_newPattern_20) (fun v3 h4 => ?_)
  refine vv_if_eq (pc := 23) (tgt := 27) X dX9_newPattern_23 rfl ?_ ?_
  · refine vv_aload_n (pc := 27) X (kf := 0) (i := 0) rfl 0 rfl dX9_newPattern_27 ?_
    refine vv_rcv (fun b9 t9 c9 fs9 e10 g9 k9 => ?_)
    cases List.mem_singleton.mp k9
    refine vv_callV (pc := 28) (rest := []) (by rw [e10]; rfl) (fun r8 k8 e8 => zz_callV X (m_X9_advance (hlM X) _ _ _ _ e8) g9 rfl rfl q3581 q3583 qs53 q164 q3584 nh_X9 rfl (by decide) (by decide) (Nat.le_of_ble_eq_true rfl) dX9_newPattern_28) (fun v7 h8 => ?_)
    refine vv_aload_n (pc := 31) X (kf := 0) (i := 0) rfl 0 rfl dX9_newPattern_31 ?_
    refine vv_rcv (fun b13 t9 c9 fs9 e14 g9 k9 => ?_)
    cases List.mem_singleton.mp k9
    refine vv_callI (pc := 32) (rest := []) (by rw [e14]; rfl) (fun r8 k8 e8 => zz_callV X (m_X9_noName (hlM X) _ _ _ _ e8) g9 rfl rfl q3629 q3631 qs63 q164 q3632 nh_X9 rfl (by decide) (by decide) (Nat.le_of_ble_eq_true rfl) dX9_newPattern_32) (fun v11 h12 => ?_)
    refine vv_if_ne (pc := 35) (tgt := 59) X dX9_newPattern_35 rfl ?_ ?_
    · exact vv_sub [] (by rfl) (B_X9_newPattern_59 X _)
    · refine vv_aload_n (pc := 38) X (kf := 0) (i := 0) rfl 0 rfl dX9_newPattern_38 ?_
      refine vv_aload_n (pc := 39) X (kf := 0) (i := 0) rfl 0 rfl dX9_newPattern_39 ?_
      refine vv_rcv (fun b17 t9 c9 fs9 e18 g9 k9 => ?_)
      cases List.mem_singleton.mp k9
      refine vv_callI (pc := 40) (rest := [LR x0]) (by rw [e18]; rfl) (fun r8 k8 e8 => zz_callV X (m_X9_found (hlM X) _ _ _ _ e8) g9 rfl rfl q3633 q3635 qs64 q164 q3636 nh_X9 rfl (by decide) (by decide) (Nat.le_of_ble_eq_true rfl) dX9_newPattern_40) (fun v15 h16 => ?_)
      refine vv_iconst (pc := 43) X dX9_newPattern_43 ?_
      refine vv_icmp_eq (pc := 44) (tgt := 51) X dX9_newPattern_44 rfl ?_ ?_
      · refine vv_iconst (pc := 51) X dX9_newPattern_51 ?_
        exact B_X9_newPattern_52 X _ _ _ _ _
      · refine vv_iconst (pc := 47) X dX9_newPattern_47 ?_
        refine vv_goto (pc := 48) (tgt := 52) X dX9_newPattern_48 rfl ?_
        exact B_X9_newPattern_52 X _ _ _ _ _
  · exact vv_vreturn X rfl rfl dX9_newPattern_26
noncomputable def f_X9_newPattern (a0 : Nat) (h : HP) : Option ((Unit) × HP) :=
  (rdR h (some a0) [7] 0).bind fun v1 =>
  (aldI h .int v1 2).bind fun v2 =>
  iEQ v2 8
    (b_X9_newPattern_19 (some a0) v2 1 (some a0) h)
    (b_X9_newPattern_19 (some a0) v2 0 (some a0) h)
theorem A_X9_newPattern {M : hp_M} {G : va_G} {h0 : HP} (X : hp_X M G h0 "RenamedWordsModel" "newPattern" cX9_newPattern 3 none [] 3 88) (a0 : Nat) (h : HP) : vv M G h0 3 (hp_End M G h0) jV h 0 [(0, LR (some a0))] [] (f_X9_newPattern a0 h) := by
  unfold f_X9_newPattern
  refine vv_aload_n (pc := 0) X (kf := 0) (i := 0) rfl 0 rfl dX9_newPattern_0 ?_
  refine vv_getR (pc := 1) X (fun _ z => by cases List.mem_singleton.mp z; exact fl_X9_9_7) dX9_newPattern_1 (fun v1 => ?_)
  refine vv_iconst (pc := 4) X dX9_newPattern_4 ?_
  refine vv_iaload (pc := 5) X dX9_newPattern_5 (fun v2 => ?_)
  refine vv_istore_n (pc := 6) (lv' := [(1, LI v2), (0, LR (some a0))]) X (kf := 1) (i := 1) rfl (by decide) rfl dX9_newPattern_6 ?_
  refine vv_aload_n (pc := 7) X (kf := 0) (i := 0) rfl 1 rfl dX9_newPattern_7 ?_
  refine vv_iload_n (pc := 8) X (kf := 1) (i := 1) rfl 0 rfl dX9_newPattern_8 ?_
  refine vv_bipush (pc := 9) X (by decide) dX9_newPattern_9 ?_
  refine vv_icmp_ne (pc := 11) (tgt := 18) X dX9_newPattern_11 rfl ?_ ?_
  · refine vv_iconst (pc := 18) X dX9_newPattern_18 ?_
    exact vv_sub [1, 0] (by rfl) (B_X9_newPattern_19 X _ _ _ _ _)
  · refine vv_iconst (pc := 14) X dX9_newPattern_14 ?_
    refine vv_goto (pc := 15) (tgt := 19) X dX9_newPattern_15 rfl ?_
    exact vv_sub [1, 0] (by rfl) (B_X9_newPattern_19 X _ _ _ _ _)
theorem m_X9_newPattern {l : Launch} (hl : l.stackTraces = false) {G : va_G} (a0 : Nat) (h : HP) : ∀ r hf, f_X9_newPattern a0 h = some (r, hf) → Ct l yX9_newPattern (ws_ yX9_newPattern cX9_newPattern 3 none) 3 88 G h [.ref a0] (jV r) hf :=
  zz_ofW hl (by decide +kernel) (lv := [(0, LR (some a0))]) (by simp [lv_args, lvL, lvV, zz_rfc, zz_rfs, zz_ci, zz_cr, zz_cj, zz_cf, zz_cd]) (by simp [lg_sl, zz_rfc, zz_ci, zz_cr, zz_cj, zz_cf, zz_cd]) (fun _ X => A_X9_newPattern X a0 h)
-- X9_number RenamedWordsModel.number(II)I
noncomputable def b_X9_number_46 (x1 : Int) (h : HP) : Option ((Int) × HP) :=
  some (x1, h)
theorem B_X9_number_46 {M : hp_M} {G : va_G} {h0 : HP} (X : hp_X M G h0 "RenamedWordsModel" "number" cX9_number 4 (some .int) [] 3 88) (x1 : Int) (h : HP) : vv M G h0 4 (hp_End M G h0) jI h 46 [(1, LI x1)] [] (b_X9_number_46 x1 h) := by
  unfold b_X9_number_46
  refine vv_iload_n (pc := 46) X (kf := 1) (i := 1) rfl 0 rfl dX9_number_46 ?_
  exact vv_iretI X rfl rfl dX9_number_47
noncomputable def b_X9_number_39 (x0 : Option Nat) (x1 : Int) (s0 : Int) (s1 : Option Nat) (h : HP) : Option ((Int) × HP) :=
  (rcv h s1 [7]).bind fun b11 =>
  hb (f_X9_faulty b11 s0 2 h) fun v9 h10 =>
  iEQ v9 0
    ((rdI h10 x0 [7] 16).bind fun v13 =>
    (rcv h10 x0 [7]).bind fun b16 =>
    hb (f_X9_advance b16 h10) fun _ h15 =>
    some (v13, h15))
    (b_X9_number_46 x1 h10)
theorem B_X9_number_39 {M : hp_M} {G : va_G} {h0 : HP} (X : hp_X M G h0 "RenamedWordsModel" "number" cX9_number 4 (some .int) [] 3 88) (x0 : Option Nat) (x1 : Int) (s0 : Int) (s1 : Option Nat) (h : HP) : vv M G h0 4 (hp_End M G h0) jI h 39 [(0, LR x0), (1, LI x1)] [LI s0, LR s1] (b_X9_number_39 x0 x1 s0 s1 h) := by
  unfold b_X9_number_39
  refine vv_iconst (pc := 39) X dX9_number_39 ?_
  refine vv_rcv (fun b11 t9 c9 fs9 e12 g9 k9 => ?_)
  cases List.mem_singleton.mp k9
  refine vv_callI (pc := 40) (rest := []) (by rw [e12]; rfl) (fun r8 k8 e8 => zz_callV X (m_X9_faulty (hlM X) _ _ _ _ _ _ e8) g9 rfl rfl q3612 q3614 qs59 q164 q3615 nh_X9 rfl (by decide) (by decide) (Nat.le_of_ble_eq_true rfl) dX9_number_40) (fun v9 h10 => ?_)
  refine vv_if_eq (pc := 43) (tgt := 48) X dX9_number_43 rfl ?_ ?_
  · refine vv_aload_n (pc := 48) X (kf := 0) (i := 0) rfl 0 rfl dX9_number_48 ?_
    refine vv_getI (pc := 49) X (fun _ z => by cases List.mem_singleton.mp z; exact fl_X9_169_7) dX9_number_49 (fun v13 => ?_)
    refine vv_istore_n (pc := 52) (lv' := [(3, LI v13), (0, LR x0), (1, LI x1)]) X (kf := 3) (i := 3) rfl (by decide) rfl dX9_number_52 ?_
    refine vv_aload_n (pc := 53) X (kf := 0) (i := 0) rfl 1 rfl dX9_number_53 ?_
    refine vv_rcv (fun b16 t9 c9 fs9 e17 g9 k9 => ?_)
    cases List.mem_singleton.mp k9
    refine vv_callV (pc := 54) (rest := []) (by rw [e17]; rfl) (fun r8 k8 e8 => zz_callV X (m_X9_advance (hlM X) _ _ _ _ e8) g9 rfl rfl q3581 q3583 qs53 q164 q3584 nh_X9 rfl (by decide) (by decide) (Nat.le_of_ble_eq_true rfl) dX9_number_54) (fun v14 h15 => ?_)
    refine vv_iload_n (pc := 57) X (kf := 3) (i := 3) rfl 0 rfl dX9_number_57 ?_
    exact vv_iretI X rfl rfl dX9_number_58
  · exact vv_sub [1] (by rfl) (B_X9_number_46 X _ _)
noncomputable def b_X9_number_14 (x0 : Option Nat) (x1 : Int) (x2 : Int) (s0 : Int) (s1 : Option Nat) (h : HP) : Option ((Int) × HP) :=
  (rcv h s1 [7]).bind fun b4 =>
  hb (f_X9_faulty b4 s0 1 h) fun v2 h3 =>
  iEQ v2 0
    ((rdI h3 x0 [7] 16).bind fun v6 =>
    hb (f_X9_in v6 x1 x2 h3) fun v7 h8 =>
    iEQ v7 0
      (b_X9_number_39 x0 x1 1 x0 h8)
      (b_X9_number_39 x0 x1 0 x0 h8))
    (b_X9_number_46 x1 h3)
theorem B_X9_number_14 {M : hp_M} {G : va_G} {h0 : HP} (X : hp_X M G h0 "RenamedWordsModel" "number" cX9_number 4 (some .int) [] 3 88) (x0 : Option Nat) (x1 : Int) (x2 : Int) (s0 : Int) (s1 : Option Nat) (h : HP) : vv M G h0 4 (hp_End M G h0) jI h 14 [(0, LR x0), (1, LI x1), (2, LI x2)] [LI s0, LR s1] (b_X9_number_14 x0 x1 x2 s0 s1 h) := by
  unfold b_X9_number_14
  refine vv_iconst (pc := 14) X dX9_number_14 ?_
  refine vv_rcv (fun b4 t9 c9 fs9 e5 g9 k9 => ?_)
  cases List.mem_singleton.mp k9
  refine vv_callI (pc := 15) (rest := []) (by rw [e5]; rfl) (fun r8 k8 e8 => zz_callV X (m_X9_faulty (hlM X) _ _ _ _ _ _ e8) g9 rfl rfl q3612 q3614 qs59 q164 q3615 nh_X9 rfl (by decide) (by decide) (Nat.le_of_ble_eq_true rfl) dX9_number_15) (fun v2 h3 => ?_)
  refine vv_if_ne (pc := 18) (tgt := 46) X dX9_number_18 rfl ?_ ?_
  · exact vv_sub [1] (by rfl) (B_X9_number_46 X _ _)
  · refine vv_aload_n (pc := 21) X (kf := 0) (i := 0) rfl 0 rfl dX9_number_21 ?_
    refine vv_aload_n (pc := 22) X (kf := 0) (i := 0) rfl 0 rfl dX9_number_22 ?_
    refine vv_getI (pc := 23) X (fun _ z => by cases List.mem_singleton.mp z; exact fl_X9_169_7) dX9_number_23 (fun v6 => ?_)
    refine vv_iload_n (pc := 26) X (kf := 1) (i := 1) rfl 1 rfl dX9_number_26 ?_
    refine vv_iload_n (pc := 27) X (kf := 2) (i := 2) rfl 2 rfl dX9_number_27 ?_
    refine vv_callI (pc := 28) (rest := [LR x0]) (by rfl) (fun r8 k8 e8 => zz_callS X (m_X9_in (hlM X) _ _ _ _ _ _ e8) q3593 q3594 q164 q3595 nh_X9 rfl (by decide) (by decide) (Nat.le_of_ble_eq_true rfl) dX9_number_28) (fun v7 h8 => ?_)
    refine vv_if_ne (pc := 31) (tgt := 38) X dX9_number_31 rfl ?_ ?_
    · refine vv_iconst (pc := 38) X dX9_number_38 ?_
      exact vv_sub [0, 1] (by rfl) (B_X9_number_39 X _ _ _ _ _)
    · refine vv_iconst (pc := 34) X dX9_number_34 ?_
      refine vv_goto (pc := 35) (tgt := 39) X dX9_number_35 rfl ?_
      exact vv_sub [0, 1] (by rfl) (B_X9_number_39 X _ _ _ _ _)
noncomputable def f_X9_number (a0 : Nat) (a1 : Int) (a2 : Int) (h : HP) : Option ((Int) × HP) :=
  (rdI h (some a0) [7] 15).bind fun v1 =>
  iEQ v1 2
    (b_X9_number_14 (some a0) a1 a2 0 (some a0) h)
    (b_X9_number_14 (some a0) a1 a2 1 (some a0) h)
theorem A_X9_number {M : hp_M} {G : va_G} {h0 : HP} (X : hp_X M G h0 "RenamedWordsModel" "number" cX9_number 4 (some .int) [] 3 88) (a0 : Nat) (a1 : Int) (a2 : Int) (h : HP) : vv M G h0 4 (hp_End M G h0) jI h 0 [(0, LR (some a0)), (1, LI a1), (2, LI a2)] [] (f_X9_number a0 a1 a2 h) := by
  unfold f_X9_number
  refine vv_aload_n (pc := 0) X (kf := 0) (i := 0) rfl 0 rfl dX9_number_0 ?_
  refine vv_aload_n (pc := 1) X (kf := 0) (i := 0) rfl 0 rfl dX9_number_1 ?_
  refine vv_getI (pc := 2) X (fun _ z => by cases List.mem_singleton.mp z; exact fl_X9_172_7) dX9_number_2 (fun v1 => ?_)
  refine vv_iconst (pc := 5) X dX9_number_5 ?_
  refine vv_icmp_eq (pc := 6) (tgt := 13) X dX9_number_6 rfl ?_ ?_
  · refine vv_iconst (pc := 13) X dX9_number_13 ?_
    exact B_X9_number_14 X _ _ _ _ _ _
  · refine vv_iconst (pc := 9) X dX9_number_9 ?_
    refine vv_goto (pc := 10) (tgt := 14) X dX9_number_10 rfl ?_
    exact B_X9_number_14 X _ _ _ _ _ _
theorem m_X9_number {l : Launch} (hl : l.stackTraces = false) {G : va_G} (a0 : Nat) (a1 : Int) (a2 : Int) (h : HP) : ∀ r hf, f_X9_number a0 a1 a2 h = some (r, hf) → Ct l yX9_number (ws_ yX9_number cX9_number 4 (some .int)) 3 88 G h [.ref a0, .int (iI a1), .int (iI a2)] (jI r) hf :=
  zz_ofW hl (by decide +kernel) (lv := [(0, LR (some a0)), (1, LI a1), (2, LI a2)]) (by simp [lv_args, lvL, lvV, zz_rfc, zz_rfs, zz_ci, zz_cr, zz_cj, zz_cf, zz_cd]) (by simp [lg_sl, zz_rfc, zz_ci, zz_cr, zz_cj, zz_cf, zz_cd]) (fun _ X => A_X9_number X a0 a1 a2 h)
-- X9_firm0 RenamedWordsModel.firm0()V
noncomputable def b_X9_firm0_14 (x0 : Option Nat) (s0 : Int) (s1 : Option Nat) (h : HP) : Option ((Unit) × HP) :=
  (rcv h s1 [7]).bind fun b4 =>
  hb (f_X9_faulty b4 s0 3 h) fun v2 h3 =>
  iEQ v2 0
    ((wrI h3 x0 [7] 20 1).bind fun h6 =>
    (rcv h6 x0 [7]).bind fun b9 =>
    hb (f_X9_advance b9 h6) fun _ h8 =>
    (rdR h8 x0 [7] 0).bind fun v11 =>
    (rcv h8 x0 [7]).bind fun b14 =>
    hb (f_X9_number b14 0 26 h8) fun v12 h13 =>
    (astI h13 .int v11 0 v12).bind fun h16 =>
    some ((), h16))
    (some ((), h3))
theorem B_X9_firm0_14 {M : hp_M} {G : va_G} {h0 : HP} (X : hp_X M G h0 "RenamedWordsModel" "firm0" cX9_firm0 1 none [] 4 119) (x0 : Option Nat) (s0 : Int) (s1 : Option Nat) (h : HP) : vv M G h0 1 (hp_End M G h0) jV h 14 [(0, LR x0)] [LI s0, LR s1] (b_X9_firm0_14 x0 s0 s1 h) := by
  unfold b_X9_firm0_14
  refine vv_iconst (pc := 14) X dX9_firm0_14 ?_
  refine vv_rcv (fun b4 t9 c9 fs9 e5 g9 k9 => ?_)
  cases List.mem_singleton.mp k9
  refine vv_callI (pc := 15) (rest := []) (by rw [e5]; rfl) (fun r8 k8 e8 => zz_callV X (m_X9_faulty (hlM X) _ _ _ _ _ _ e8) g9 rfl rfl q3612 q3614 qs59 q164 q3615 nh_X9 rfl (by decide) (by decide) (Nat.le_of_ble_eq_true rfl) dX9_firm0_15) (fun v2 h3 => ?_)
  refine vv_if_eq (pc := 18) (tgt := 22) X dX9_firm0_18 rfl ?_ ?_
  · refine vv_aload_n (pc := 22) X (kf := 0) (i := 0) rfl 0 rfl dX9_firm0_22 ?_
    refine vv_iconst (pc := 23) X dX9_firm0_23 ?_
    refine vv_putI (pc := 24) (fin := false) X (fun _ z => by cases List.mem_singleton.mp z; exact fl_X9_223_7) (fun z => nomatch z) (fun z => nomatch z) dX9_firm0_24 (fun h6 => ?_)
    refine vv_aload_n (pc := 27) X (kf := 0) (i := 0) rfl 0 rfl dX9_firm0_27 ?_
    refine vv_rcv (fun b9 t9 c9 fs9 e10 g9 k9 => ?_)
    cases List.mem_singleton.mp k9
    refine vv_callV (pc := 28) (rest := []) (by rw [e10]; rfl) (fun r8 k8 e8 => zz_callV X (m_X9_advance (hlM X) _ _ _ _ e8) g9 rfl rfl q3581 q3583 qs53 q164 q3584 nh_X9 rfl (by decide) (by decide) (Nat.le_of_ble_eq_true rfl) dX9_firm0_28) (fun v7 h8 => ?_)
    refine vv_aload_n (pc := 31) X (kf := 0) (i := 0) rfl 0 rfl dX9_firm0_31 ?_
    refine vv_getR (pc := 32) X (fun _ z => by cases List.mem_singleton.mp z; exact fl_X9_9_7) dX9_firm0_32 (fun v11 => ?_)
    refine vv_iconst (pc := 35) X dX9_firm0_35 ?_
    refine vv_aload_n (pc := 36) X (kf := 0) (i := 0) rfl 0 rfl dX9_firm0_36 ?_
    refine vv_iconst (pc := 37) X dX9_firm0_37 ?_
    refine vv_bipush (pc := 38) X (by decide) dX9_firm0_38 ?_
    refine vv_rcv (fun b14 t9 c9 fs9 e15 g9 k9 => ?_)
    cases List.mem_singleton.mp k9
    refine vv_callI (pc := 40) (rest := [LI 0, LR v11]) (by rw [e15]; rfl) (fun r8 k8 e8 => zz_callV X (m_X9_number (hlM X) _ _ _ _ _ _ e8) g9 rfl rfl q3650 q3652 qs68 q164 q3653 nh_X9 rfl (by decide) (by decide) (Nat.le_of_ble_eq_true rfl) dX9_firm0_40) (fun v12 h13 => ?_)
    refine vv_iastore (pc := 43) X dX9_firm0_43 (fun h16 => ?_)
    exact vv_vreturn X rfl rfl dX9_firm0_44
  · exact vv_vreturn X rfl rfl dX9_firm0_21
noncomputable def f_X9_firm0 (a0 : Nat) (h : HP) : Option ((Unit) × HP) :=
  (rdI h (some a0) [7] 20).bind fun v1 =>
  iEQ v1 1
    (b_X9_firm0_14 (some a0) 1 (some a0) h)
    (b_X9_firm0_14 (some a0) 0 (some a0) h)
theorem A_X9_firm0 {M : hp_M} {G : va_G} {h0 : HP} (X : hp_X M G h0 "RenamedWordsModel" "firm0" cX9_firm0 1 none [] 4 119) (a0 : Nat) (h : HP) : vv M G h0 1 (hp_End M G h0) jV h 0 [(0, LR (some a0))] [] (f_X9_firm0 a0 h) := by
  unfold f_X9_firm0
  refine vv_aload_n (pc := 0) X (kf := 0) (i := 0) rfl 0 rfl dX9_firm0_0 ?_
  refine vv_aload_n (pc := 1) X (kf := 0) (i := 0) rfl 0 rfl dX9_firm0_1 ?_
  refine vv_getI (pc := 2) X (fun _ z => by cases List.mem_singleton.mp z; exact fl_X9_223_7) dX9_firm0_2 (fun v1 => ?_)
  refine vv_iconst (pc := 5) X dX9_firm0_5 ?_
  refine vv_icmp_ne (pc := 6) (tgt := 13) X dX9_firm0_6 rfl ?_ ?_
  · refine vv_iconst (pc := 13) X dX9_firm0_13 ?_
    exact B_X9_firm0_14 X _ _ _ _
  · refine vv_iconst (pc := 9) X dX9_firm0_9 ?_
    refine vv_goto (pc := 10) (tgt := 14) X dX9_firm0_10 rfl ?_
    exact B_X9_firm0_14 X _ _ _ _
theorem m_X9_firm0 {l : Launch} (hl : l.stackTraces = false) {G : va_G} (a0 : Nat) (h : HP) : ∀ r hf, f_X9_firm0 a0 h = some (r, hf) → Ct l yX9_firm0 (ws_ yX9_firm0 cX9_firm0 1 none) 4 119 G h [.ref a0] (jV r) hf :=
  zz_ofW hl (by decide +kernel) (lv := [(0, LR (some a0))]) (by simp [lv_args, lvL, lvV, zz_rfc, zz_rfs, zz_ci, zz_cr, zz_cj, zz_cf, zz_cd]) (by simp [lg_sl, zz_rfc, zz_ci, zz_cr, zz_cj, zz_cf, zz_cd]) (fun _ X => A_X9_firm0 X a0 h)
-- X9_setup RenamedWordsModel.setup()V
noncomputable def b_X9_setup_166 (s0 : Int) (s1 : Option Nat) (s2 : Option Nat) (h : HP) : Option ((Unit) × HP) :=
  (rcv h s1 [7]).bind fun b32 =>
  hb (f_X9_faulty b32 s0 1 h) fun v30 h31 =>
  (wrZ h31 s2 [7] 21 v30).bind fun h34 =>
  some ((), h34)
theorem B_X9_setup_166 {M : hp_M} {G : va_G} {h0 : HP} (X : hp_X M G h0 "RenamedWordsModel" "setup" cX9_setup 2 none [] 5 147) (s0 : Int) (s1 : Option Nat) (s2 : Option Nat) (h : HP) : vv M G h0 2 (hp_End M G h0) jV h 166 [] [LI s0, LR s1, LR s2] (b_X9_setup_166 s0 s1 s2 h) := by
  unfold b_X9_setup_166
  refine vv_iconst (pc := 166) X dX9_setup_166 ?_
  refine vv_rcv (fun b32 t9 c9 fs9 e33 g9 k9 => ?_)
  cases List.mem_singleton.mp k9
  refine vv_callI (pc := 167) (rest := [LR s2]) (by rw [e33]; rfl) (fun r8 k8 e8 => zz_callV X (m_X9_faulty (hlM X) _ _ _ _ _ _ e8) g9 rfl rfl q3612 q3614 qs59 q164 q3615 nh_X9 rfl (by decide) (by decide) (Nat.le_of_ble_eq_true rfl) dX9_setup_167) (fun v30 h31 => ?_)
  refine vv_putZ (pc := 170) (fin := false) X (fun _ z => by cases List.mem_singleton.mp z; exact fl_X9_248_7) (fun z => nomatch z) (fun z => nomatch z) dX9_setup_170 (fun h34 => ?_)
  exact vv_vreturn X rfl rfl dX9_setup_173
noncomputable def c_X9_setup_94 (r94 : Option Nat → HP → Option ((Unit) × HP)) (x0 : Option Nat) (h : HP) : Option ((Unit) × HP) :=
  (rcv h x0 [7]).bind fun b27 =>
  hb (f_X9_isSign b27 59 h) fun v25 h26 =>
  iEQ v25 0
    ((rdI h26 x0 [7] 15).bind fun v29 =>
    iEQ v29 0
      (b_X9_setup_166 0 x0 x0 h26)
      (b_X9_setup_166 1 x0 x0 h26))
    ((rcv h26 x0 [7]).bind fun b37 =>
    hb (f_X9_advance b37 h26) fun _ h36 =>
    (rcv h36 x0 [7]).bind fun b41 =>
    hb (f_X9_isKey b41 (hp_c h36 28) h36) fun v39 h40 =>
    iEQ v39 0
      ((rcv h40 x0 [7]).bind fun b45 =>
      hb (f_X9_isKey b45 (hp_c h40 29) h40) fun v43 h44 =>
      iEQ v43 0
        ((rcv h44 x0 [7]).bind fun b49 =>
        hb (f_X9_faulty b49 1 1 h44) fun v47 h48 =>
        (wrZ h48 x0 [7] 21 v47).bind fun h51 =>
        r94 x0 h51)
        ((rcv h44 x0 [7]).bind fun b54 =>
        hb (f_X9_firm0 b54 h44) fun _ h53 =>
        r94 x0 h53))
      ((rcv h40 x0 [7]).bind fun b58 =>
      hb (f_X9_newPattern b58 h40) fun _ h57 =>
      r94 x0 h57))
noncomputable def b_X9_setup_94 : Option Nat → HP → Option ((Unit) × HP) := fx (fun _ _ => none) (c_X9_setup_94) FU
theorem C_X9_setup_94 {M : hp_M} {G : va_G} {h0 : HP} (X : hp_X M G h0 "RenamedWordsModel" "setup" cX9_setup 2 none [] 5 147) (r94 : Option Nat → HP → Option ((Unit) × HP)) (hr94 : ∀ (y0 : Option Nat) (h : HP), vv M G h0 2 (hp_End M G h0) jV h 94 [(0, LR y0)] [] (r94 y0 h)) (x0 : Option Nat) (h : HP) : vv M G h0 2 (hp_End M G h0) jV h 94 [(0, LR x0)] [] (c_X9_setup_94 r94 x0 h) := by
  unfold c_X9_setup_94
  refine vv_aload_n (pc := 94) X (kf := 0) (i := 0) rfl 0 rfl dX9_setup_94 ?_
  refine vv_bipush (pc := 95) X (by decide) dX9_setup_95 ?_
  refine vv_rcv (fun b27 t9 c9 fs9 e28 g9 k9 => ?_)
  cases List.mem_singleton.mp k9
  refine vv_callI (pc := 97) (rest := []) (by rw [e28]; rfl) (fun r8 k8 e8 => zz_callV X (m_X9_isSign (hlM X) _ _ _ _ _ e8) g9 rfl rfl q3620 q3622 qs61 q164 q3623 nh_X9 rfl (by decide) (by decide) (Nat.le_of_ble_eq_true rfl) dX9_setup_97) (fun v25 h26 => ?_)
  refine vv_if_eq (pc := 100) (tgt := 152) X dX9_setup_100 rfl ?_ ?_
  · refine vv_aload_n (pc := 152) X (kf := 0) (i := 0) rfl 0 rfl dX9_setup_152 ?_
    refine vv_aload_n (pc := 153) X (kf := 0) (i := 0) rfl 0 rfl dX9_setup_153 ?_
    refine vv_aload_n (pc := 154) X (kf := 0) (i := 0) rfl 0 rfl dX9_setup_154 ?_
    refine vv_getI (pc := 155) X (fun _ z => by cases List.mem_singleton.mp z; exact fl_X9_172_7) dX9_setup_155 (fun v29 => ?_)
    refine vv_if_eq (pc := 158) (tgt := 165) X dX9_setup_158 rfl ?_ ?_
    · refine vv_iconst (pc := 165) X dX9_setup_165 ?_
      exact vv_sub [] (by rfl) (B_X9_setup_166 X _ _ _ _)
    · refine vv_iconst (pc := 161) X dX9_setup_161 ?_
      refine vv_goto (pc := 162) (tgt := 166) X dX9_setup_162 rfl ?_
      exact vv_sub [] (by rfl) (B_X9_setup_166 X _ _ _ _)
  · refine vv_aload_n (pc := 103) X (kf := 0) (i := 0) rfl 0 rfl dX9_setup_103 ?_
    refine vv_rcv (fun b37 t9 c9 fs9 e38 g9 k9 => ?_)
    cases List.mem_singleton.mp k9
    refine vv_callV (pc := 104) (rest := []) (by rw [e38]; rfl) (fun r8 k8 e8 => zz_callV X (m_X9_advance (hlM X) _ _ _ _ e8) g9 rfl rfl q3581 q3583 qs53 q164 q3584 nh_X9 rfl (by decide) (by decide) (Nat.le_of_ble_eq_true rfl) dX9_setup_104) (fun v35 h36 => ?_)
    refine vv_aload_n (pc := 107) X (kf := 0) (i := 0) rfl 0 rfl dX9_setup_107 ?_
    refine vv_ldcS (pc := 108) (i := 28) X (List.mem_of_getElem? (i := 28) rfl) dX9_setup_108 ?_
    refine vv_rcv (fun b41 t9 c9 fs9 e42 g9 k9 => ?_)
    cases List.mem_singleton.mp k9
    refine vv_callI (pc := 110) (rest := []) (by rw [e42]; rfl) (fun r8 k8 e8 => zz_callV X (m_X9_isKey (hlM X) _ _ _ _ _ e8) g9 rfl rfl q3602 q3604 qs57 q164 q3605 nh_X9 rfl (by decide) (by decide) (Nat.le_of_ble_eq_true rfl) dX9_setup_110) (fun v39 h40 => ?_)
    refine vv_if_eq (pc := 113) (tgt := 123) X dX9_setup_113 rfl ?_ ?_
    · refine vv_aload_n (pc := 123) X (kf := 0) (i := 0) rfl 0 rfl dX9_setup_123 ?_
      refine vv_ldcS (pc := 124) (i := 29) X (List.mem_of_getElem? (i := 29) rfl) dX9_setup_124 ?_
      refine vv_rcv (fun b45 t9 c9 fs9 e46 g9 k9 => ?_)
      cases List.mem_singleton.mp k9
      refine vv_callI (pc := 126) (rest := []) (by rw [e46]; rfl) (fun r8 k8 e8 => zz_callV X (m_X9_isKey (hlM X) _ _ _ _ _ e8) g9 rfl rfl q3602 q3604 qs57 q164 q3605 nh_X9 rfl (by decide) (by decide) (Nat.le_of_ble_eq_true rfl) dX9_setup_126) (fun v43 h44 => ?_)
      refine vv_if_eq (pc := 129) (tgt := 139) X dX9_setup_129 rfl ?_ ?_
      · refine vv_aload_n (pc := 139) X (kf := 0) (i := 0) rfl 0 rfl dX9_setup_139 ?_
        refine vv_aload_n (pc := 140) X (kf := 0) (i := 0) rfl 0 rfl dX9_setup_140 ?_
        refine vv_iconst (pc := 141) X dX9_setup_141 ?_
        refine vv_iconst (pc := 142) X dX9_setup_142 ?_
        refine vv_rcv (fun b49 t9 c9 fs9 e50 g9 k9 => ?_)
        cases List.mem_singleton.mp k9
        refine vv_callI (pc := 143) (rest := [LR x0]) (by rw [e50]; rfl) (fun r8 k8 e8 => zz_callV X (m_X9_faulty (hlM X) _ _ _ _ _ _ e8) g9 rfl rfl q3612 q3614 qs59 q164 q3615 nh_X9 rfl (by decide) (by decide) (Nat.le_of_ble_eq_true rfl) dX9_setup_143) (fun v47 h48 => ?_)
        refine vv_putZ (pc := 146) (fin := false) X (fun _ z => by cases List.mem_singleton.mp z; exact fl_X9_248_7) (fun z => nomatch z) (fun z => nomatch z) dX9_setup_146 (fun h51 => ?_)
        refine vv_goto (pc := 149) (tgt := 94) X dX9_setup_149 rfl ?_
        exact hr94 _ _
      · refine vv_aload_n (pc := 132) X (kf := 0) (i := 0) rfl 0 rfl dX9_setup_132 ?_
        refine vv_rcv (fun b54 t9 c9 fs9 e55 g9 k9 => ?_)
        cases List.mem_singleton.mp k9
        refine vv_callV (pc := 133) (rest := []) (by rw [e55]; rfl) (fun r8 k8 e8 => zz_callV X (m_X9_firm0 (hlM X) _ _ _ _ e8) g9 rfl rfl q3646 q3648 qs67 q164 q3649 nh_X9 rfl (by decide) (by decide) (Nat.le_of_ble_eq_true rfl) dX9_setup_133) (fun v52 h53 => ?_)
        refine vv_goto (pc := 136) (tgt := 94) X dX9_setup_136 rfl ?_
        exact hr94 _ _
    · refine vv_aload_n (pc := 116) X (kf := 0) (i := 0) rfl 0 rfl dX9_setup_116 ?_
      refine vv_rcv (fun b58 t9 c9 fs9 e59 g9 k9 => ?_)
      cases List.mem_singleton.mp k9
      refine vv_callV (pc := 117) (rest := []) (by rw [e59]; rfl) (fun r8 k8 e8 => zz_callV X (m_X9_newPattern (hlM X) _ _ _ _ e8) g9 rfl rfl q3625 q3627 qs62 q164 q3628 nh_X9 rfl (by decide) (by decide) (Nat.le_of_ble_eq_true rfl) dX9_setup_117) (fun v56 h57 => ?_)
      refine vv_goto (pc := 120) (tgt := 94) X dX9_setup_120 rfl ?_
      exact hr94 _ _
theorem B_X9_setup_94 {M : hp_M} {G : va_G} {h0 : HP} (X : hp_X M G h0 "RenamedWordsModel" "setup" cX9_setup 2 none [] 5 147) : ∀ (x0 : Option Nat) (h : HP), vv M G h0 2 (hp_End M G h0) jV h 94 [(0, LR x0)] [] (b_X9_setup_94 x0 h) := by
  unfold b_X9_setup_94
  generalize FU = n
  induction n with
  | zero => intro x0 h; exact vv_none
  | succ n ih => exact C_X9_setup_94 X _ ih
noncomputable def c_X9_setup_72 (r72 : Option Nat → HP → Option ((Unit) × HP)) (x0 : Option Nat) (h : HP) : Option ((Unit) × HP) :=
  (rdI h x0 [7] 17).bind fun v24 =>
  iEQ v24 0
    ((rdI h x0 [7] 15).bind fun v60 =>
    iEQ v60 1
      ((rcv h x0 [7]).bind fun b63 =>
      hb (f_X9_textWord b63 h) fun _ h62 =>
      r72 x0 h62)
      (b_X9_setup_94 x0 h))
    (b_X9_setup_94 x0 h)
noncomputable def b_X9_setup_72 : Option Nat → HP → Option ((Unit) × HP) := fx (fun _ _ => none) (c_X9_setup_72) FU
theorem C_X9_setup_72 {M : hp_M} {G : va_G} {h0 : HP} (X : hp_X M G h0 "RenamedWordsModel" "setup" cX9_setup 2 none [] 5 147) (r72 : Option Nat → HP → Option ((Unit) × HP)) (hr72 : ∀ (y0 : Option Nat) (h : HP), vv M G h0 2 (hp_End M G h0) jV h 72 [(0, LR y0)] [] (r72 y0 h)) (x0 : Option Nat) (h : HP) : vv M G h0 2 (hp_End M G h0) jV h 72 [(0, LR x0)] [] (c_X9_setup_72 r72 x0 h) := by
  unfold c_X9_setup_72
  refine vv_aload_n (pc := 72) X (kf := 0) (i := 0) rfl 0 rfl dX9_setup_72 ?_
  refine vv_getI (pc := 73) X (fun _ z => by cases List.mem_singleton.mp z; exact fl_X9_182_7) dX9_setup_73 (fun v24 => ?_)
  refine vv_if_ne (pc := 76) (tgt := 94) X dX9_setup_76 rfl ?_ ?_
  · exact B_X9_setup_94 X _ _
  · refine vv_aload_n (pc := 79) X (kf := 0) (i := 0) rfl 0 rfl dX9_setup_79 ?_
    refine vv_getI (pc := 80) X (fun _ z => by cases List.mem_singleton.mp z; exact fl_X9_172_7) dX9_setup_80 (fun v60 => ?_)
    refine vv_iconst (pc := 83) X dX9_setup_83 ?_
    refine vv_icmp_ne (pc := 84) (tgt := 94) X dX9_setup_84 rfl ?_ ?_
    · exact B_X9_setup_94 X _ _
    · refine vv_aload_n (pc := 87) X (kf := 0) (i := 0) rfl 0 rfl dX9_setup_87 ?_
      refine vv_rcv (fun b63 t9 c9 fs9 e64 g9 k9 => ?_)
      cases List.mem_singleton.mp k9
      refine vv_callV (pc := 88) (rest := []) (by rw [e64]; rfl) (fun r8 k8 e8 => zz_callV X (m_X9_textWord (hlM X) _ _ _ _ e8) g9 rfl rfl q3616 q3618 qs60 q164 q3619 nh_X9 rfl (by decide) (by decide) (Nat.le_of_ble_eq_true rfl) dX9_setup_88) (fun v61 h62 => ?_)
      refine vv_goto (pc := 91) (tgt := 72) X dX9_setup_91 rfl ?_
      exact hr72 _ _
theorem B_X9_setup_72 {M : hp_M} {G : va_G} {h0 : HP} (X : hp_X M G h0 "RenamedWordsModel" "setup" cX9_setup 2 none [] 5 147) : ∀ (x0 : Option Nat) (h : HP), vv M G h0 2 (hp_End M G h0) jV h 72 [(0, LR x0)] [] (b_X9_setup_72 x0 h) := by
  unfold b_X9_setup_72
  generalize FU = n
  induction n with
  | zero => intro x0 h; exact vv_none
  | succ n ih => exact C_X9_setup_72 X _ ih
noncomputable def b_X9_setup_56 (x0 : Option Nat) (s0 : Int) (s1 : Option Nat) (h : HP) : Option ((Unit) × HP) :=
  (rcv h s1 [7]).bind fun b14 =>
  hb (f_X9_faulty b14 s0 1 h) fun v12 h13 =>
  iEQ v12 0
    ((rcv h13 x0 [7]).bind fun b18 =>
    hb (f_X9_advance b18 h13) fun _ h17 =>
    (rcv h17 x0 [7]).bind fun b22 =>
    hb (f_X9_textWord b22 h17) fun _ h21 =>
    b_X9_setup_72 x0 h21)
    (some ((), h13))
theorem B_X9_setup_56 {M : hp_M} {G : va_G} {h0 : HP} (X : hp_X M G h0 "RenamedWordsModel" "setup" cX9_setup 2 none [] 5 147) (x0 : Option Nat) (s0 : Int) (s1 : Option Nat) (h : HP) : vv M G h0 2 (hp_End M G h0) jV h 56 [(0, LR x0)] [LI s0, LR s1] (b_X9_setup_56 x0 s0 s1 h) := by
  unfold b_X9_setup_56
  refine vv_iconst (pc := 56) X dX9_setup_56 ?_
  refine vv_rcv (fun b14 t9 c9 fs9 e15 g9 k9 => ?_)
  cases List.mem_singleton.mp k9
  refine vv_callI (pc := 57) (rest := []) (by rw [e15]; rfl) (fun r8 k8 e8 => zz_callV X (m_X9_faulty (hlM X) _ _ _ _ _ _ e8) g9 rfl rfl q3612 q3614 qs59 q164 q3615 nh_X9 rfl (by decide) (by decide) (Nat.le_of_ble_eq_true rfl) dX9_setup_57) (fun v12 h13 => ?_)
  refine vv_if_eq (pc := 60) (tgt := 64) X dX9_setup_60 rfl ?_ ?_
  · refine vv_aload_n (pc := 64) X (kf := 0) (i := 0) rfl 0 rfl dX9_setup_64 ?_
    refine vv_rcv (fun b18 t9 c9 fs9 e19 g9 k9 => ?_)
    cases List.mem_singleton.mp k9
    refine vv_callV (pc := 65) (rest := []) (by rw [e19]; rfl) (fun r8 k8 e8 => zz_callV X (m_X9_advance (hlM X) _ _ _ _ e8) g9 rfl rfl q3581 q3583 qs53 q164 q3584 nh_X9 rfl (by decide) (by decide) (Nat.le_of_ble_eq_true rfl) dX9_setup_65) (fun v16 h17 => ?_)
    refine vv_aload_n (pc := 68) X (kf := 0) (i := 0) rfl 0 rfl dX9_setup_68 ?_
    refine vv_rcv (fun b22 t9 c9 fs9 e23 g9 k9 => ?_)
    cases List.mem_singleton.mp k9
    refine vv_callV (pc := 69) (rest := []) (by rw [e23]; rfl) (fun r8 k8 e8 => zz_callV X (m_X9_textWord (hlM X) _ _ _ _ e8) g9 rfl rfl q3616 q3618 qs60 q164 q3619 nh_X9 rfl (by decide) (by decide) (Nat.le_of_ble_eq_true rfl) dX9_setup_69) (fun v20 h21 => ?_)
    exact B_X9_setup_72 X _ _
  · exact vv_vreturn X rfl rfl dX9_setup_63
noncomputable def c_X9_setup_17 (r17 : Option Nat → Int → HP → Option ((Unit) × HP)) (x0 : Option Nat) (x1 : Int) (h : HP) : Option ((Unit) × HP) :=
  iLE 576 x1
    ((rcv h x0 [7]).bind fun b6 =>
    hb (f_X9_advance b6 h) fun _ h5 =>
    (rcv h5 x0 [7]).bind fun b10 =>
    hb (f_X9_isKey b10 (hp_c h5 27) h5) fun v8 h9 =>
    iEQ v8 0
      (b_X9_setup_56 x0 1 x0 h9)
      (b_X9_setup_56 x0 0 x0 h9))
    ((rdR h x0 [7] 0).bind fun v65 =>
    (astI h .int v65 x1 0).bind fun h66 =>
    r17 x0 (x1 + 1) h66)
noncomputable def b_X9_setup_17 : Option Nat → Int → HP → Option ((Unit) × HP) := fx (fun _ _ _ => none) (c_X9_setup_17) FU
theorem C_X9_setup_17 {M : hp_M} {G : va_G} {h0 : HP} (X : hp_X M G h0 "RenamedWordsModel" "setup" cX9_setup 2 none [] 5 147) (r17 : Option Nat → Int → HP → Option ((Unit) × HP)) (hr17 : ∀ (y0 : Option Nat) (y1 : Int) (h : HP), vv M G h0 2 (hp_End M G h0) jV h 17 [(0, LR y0), (1, LI y1)] [] (r17 y0 y1 h)) (x0 : Option Nat) (x1 : Int) (h : HP) : vv M G h0 2 (hp_End M G h0) jV h 17 [(0, LR x0), (1, LI x1)] [] (c_X9_setup_17 r17 x0 x1 h) := by
  unfold c_X9_setup_17
  refine vv_iload_n (pc := 17) X (kf := 1) (i := 1) rfl 1 rfl dX9_setup_17 ?_
  refine vv_sipush (pc := 18) X (by decide) dX9_setup_18 ?_
  refine vv_icmp_ge (pc := 21) (tgt := 37) X dX9_setup_21 rfl ?_ ?_
  · refine vv_aload_n (pc := 37) X (kf := 0) (i := 0) rfl 0 rfl dX9_setup_37 ?_
    refine vv_rcv (fun b6 t9 c9 fs9 e7 g9 k9 => ?_)
    cases List.mem_singleton.mp k9
    refine vv_callV (pc := 38) (rest := []) (by rw [e7]; rfl) (fun r8 k8 e8 => zz_callV X (m_X9_advance (hlM X) _ _ _ _ e8) g9 rfl rfl q3581 q3583 qs53 q164 q3584 nh_X9 rfl (by decide) (by decide) (Nat.le_of_ble_eq_true rfl) dX9_setup_38) (fun v4 h5 => ?_)
    refine vv_aload_n (pc := 41) X (kf := 0) (i := 0) rfl 0 rfl dX9_setup_41 ?_
    refine vv_aload_n (pc := 42) X (kf := 0) (i := 0) rfl 0 rfl dX9_setup_42 ?_
    refine vv_ldcS (pc := 43) (i := 27) X (List.mem_of_getElem? (i := 27) rfl) dX9_setup_43 ?_
    refine vv_rcv (fun b10 t9 c9 fs9 e11 g9 k9 => ?_)
    cases List.mem_singleton.mp k9
    refine vv_callI (pc := 45) (rest := [LR x0]) (by rw [e11]; rfl) (fun r8 k8 e8 => zz_callV X (m_X9_isKey (hlM X) _ _ _ _ _ e8) g9 rfl rfl q3602 q3604 qs57 q164 q3605 nh_X9 rfl (by decide) (by decide) (Nat.le_of_ble_eq_true rfl) dX9_setup_45) (fun v8 h9 => ?_)
    refine vv_if_ne (pc := 48) (tgt := 55) X dX9_setup_48 rfl ?_ ?_
    · refine vv_iconst (pc := 55) X dX9_setup_55 ?_
      exact vv_sub [0] (by rfl) (B_X9_setup_56 X _ _ _ _)
    · refine vv_iconst (pc := 51) X dX9_setup_51 ?_
      refine vv_goto (pc := 52) (tgt := 56) X dX9_setup_52 rfl ?_
      exact vv_sub [0] (by rfl) (B_X9_setup_56 X _ _ _ _)
  · refine vv_aload_n (pc := 24) X (kf := 0) (i := 0) rfl 0 rfl dX9_setup_24 ?_
    refine vv_getR (pc := 25) X (fun _ z => by cases List.mem_singleton.mp z; exact fl_X9_9_7) dX9_setup_25 (fun v65 => ?_)
    refine vv_iload_n (pc := 28) X (kf := 1) (i := 1) rfl 1 rfl dX9_setup_28 ?_
    refine vv_iconst (pc := 29) X dX9_setup_29 ?_
    refine vv_iastore (pc := 30) X dX9_setup_30 (fun h66 => ?_)
    refine vv_iinc (pc := 31) (lv' := [(1, LI (x1 + 1)), (0, LR x0)]) X 1 rfl (by decide) rfl dX9_setup_31 ?_
    refine vv_goto (pc := 34) (tgt := 17) X dX9_setup_34 rfl ?_
    exact vv_sub [1, 0] (by rfl) (hr17 _ _ _)
theorem B_X9_setup_17 {M : hp_M} {G : va_G} {h0 : HP} (X : hp_X M G h0 "RenamedWordsModel" "setup" cX9_setup 2 none [] 5 147) : ∀ (x0 : Option Nat) (x1 : Int) (h : HP), vv M G h0 2 (hp_End M G h0) jV h 17 [(0, LR x0), (1, LI x1)] [] (b_X9_setup_17 x0 x1 h) := by
  unfold b_X9_setup_17
  generalize FU = n
  induction n with
  | zero => intro x0 x1 h; exact vv_none
  | succ n ih => exact C_X9_setup_17 X _ ih
noncomputable def f_X9_setup (a0 : Nat) (h : HP) : Option ((Unit) × HP) :=
  (wrI h (some a0) [7] 14 0).bind fun h1 =>
  (wrI h1 (some a0) [7] 17 0).bind fun h2 =>
  (wrI h2 (some a0) [7] 20 0).bind fun h3 =>
  b_X9_setup_17 (some a0) 0 h3
theorem A_X9_setup {M : hp_M} {G : va_G} {h0 : HP} (X : hp_X M G h0 "RenamedWordsModel" "setup" cX9_setup 2 none [] 5 147) (a0 : Nat) (h : HP) : vv M G h0 2 (hp_End M G h0) jV h 0 [(0, LR (some a0))] [] (f_X9_setup a0 h) := by
  unfold f_X9_setup
  refine vv_aload_n (pc := 0) X (kf := 0) (i := 0) rfl 0 rfl dX9_setup_0 ?_
  refine vv_iconst (pc := 1) X dX9_setup_1 ?_
  refine vv_putI (pc := 2) (fin := false) X (fun _ z => by cases List.mem_singleton.mp z; exact fl_X9_163_7) (fun z => nomatch z) (fun z => nomatch z) dX9_setup_2 (fun h1 => ?_)
  refine vv_aload_n (pc := 5) X (kf := 0) (i := 0) rfl 0 rfl dX9_setup_5 ?_
  refine vv_iconst (pc := 6) X dX9_setup_6 ?_
  refine vv_putI (pc := 7) (fin := false) X (fun _ z => by cases List.mem_singleton.mp z; exact fl_X9_182_7) (fun z => nomatch z) (fun z => nomatch z) dX9_setup_7 (fun h2 => ?_)
  refine vv_aload_n (pc := 10) X (kf := 0) (i := 0) rfl 0 rfl dX9_setup_10 ?_
  refine vv_iconst (pc := 11) X dX9_setup_11 ?_
  refine vv_putI (pc := 12) (fin := false) X (fun _ z => by cases List.mem_singleton.mp z; exact fl_X9_223_7) (fun z => nomatch z) (fun z => nomatch z) dX9_setup_12 (fun h3 => ?_)
  refine vv_iconst (pc := 15) X dX9_setup_15 ?_
  refine vv_istore_n (pc := 16) (lv' := [(1, LI 0), (0, LR (some a0))]) X (kf := 1) (i := 1) rfl (by decide) rfl dX9_setup_16 ?_
  exact vv_sub [1, 0] (by rfl) (B_X9_setup_17 X _ _ _)
theorem m_X9_setup {l : Launch} (hl : l.stackTraces = false) {G : va_G} (a0 : Nat) (h : HP) : ∀ r hf, f_X9_setup a0 h = some (r, hf) → Ct l yX9_setup (ws_ yX9_setup cX9_setup 2 none) 5 147 G h [.ref a0] (jV r) hf :=
  zz_ofW hl (by decide +kernel) (lv := [(0, LR (some a0))]) (by simp [lv_args, lvL, lvV, zz_rfc, zz_rfs, zz_ci, zz_cr, zz_cj, zz_cf, zz_cd]) (by simp [lg_sl, zz_rfc, zz_ci, zz_cr, zz_cj, zz_cf, zz_cd]) (fun _ X => A_X9_setup X a0 h)
-- X9_ended RenamedWordsModel.ended()I
noncomputable def b_X9_ended_42 (s0 : Int) (h : HP) : Option ((Int) × HP) :=
  some (s0, h)
theorem B_X9_ended_42 {M : hp_M} {G : va_G} {h0 : HP} (X : hp_X M G h0 "RenamedWordsModel" "ended" cX9_ended 1 (some .int) [] 0 0) (s0 : Int) (h : HP) : vv M G h0 1 (hp_End M G h0) jI h 42 [] [LI s0] (b_X9_ended_42 s0 h) := by
  unfold b_X9_ended_42
  exact vv_iretI X rfl rfl dX9_ended_42
noncomputable def b_X9_ended_21 (x0 : Option Nat) (s0 : Int) (s1 : Option Nat) (h : HP) : Option ((Int) × HP) :=
  (wrI h s1 [7] 19 s0).bind fun h4 =>
  (rdI h4 x0 [7] 17).bind fun v5 =>
  iEQ v5 0
    (b_X9_ended_42 0 h4)
    ((rdI h4 x0 [7] 17).bind fun v6 =>
    b_X9_ended_42 ((-10) - v6) h4)
theorem B_X9_ended_21 {M : hp_M} {G : va_G} {h0 : HP} (X : hp_X M G h0 "RenamedWordsModel" "ended" cX9_ended 1 (some .int) [] 0 0) (x0 : Option Nat) (s0 : Int) (s1 : Option Nat) (h : HP) : vv M G h0 1 (hp_End M G h0) jI h 21 [(0, LR x0)] [LI s0, LR s1] (b_X9_ended_21 x0 s0 s1 h) := by
  unfold b_X9_ended_21
  refine vv_putI (pc := 21) (fin := false) X (fun _ z => by cases List.mem_singleton.mp z; exact fl_X9_41_7) (fun z => nomatch z) (fun z => nomatch z) dX9_ended_21 (fun h4 => ?_)
  refine vv_aload_n (pc := 24) X (kf := 0) (i := 0) rfl 0 rfl dX9_ended_24 ?_
  refine vv_getI (pc := 25) X (fun _ z => by cases List.mem_singleton.mp z; exact fl_X9_182_7) dX9_ended_25 (fun v5 => ?_)
  refine vv_if_ne (pc := 28) (tgt := 35) X dX9_ended_28 rfl ?_ ?_
  · refine vv_bipush (pc := 35) X (by decide) dX9_ended_35 ?_
    refine vv_aload_n (pc := 37) X (kf := 0) (i := 0) rfl 0 rfl dX9_ended_37 ?_
    refine vv_getI (pc := 38) X (fun _ z => by cases List.mem_singleton.mp z; exact fl_X9_182_7) dX9_ended_38 (fun v6 => ?_)
    refine vv_isub (pc := 41) X dX9_ended_41 ?_
    exact vv_sub [] (by rfl) (B_X9_ended_42 X _ _)
  · refine vv_iconst (pc := 31) X dX9_ended_31 ?_
    refine vv_goto (pc := 32) (tgt := 42) X dX9_ended_32 rfl ?_
    exact vv_sub [] (by rfl) (B_X9_ended_42 X _ _)
noncomputable def f_X9_ended (a0 : Nat) (h : HP) : Option ((Int) × HP) :=
  (wrI h (some a0) [7] 12 0).bind fun h1 =>
  (rdI h1 (some a0) [7] 17).bind fun v2 =>
  iEQ v2 0
    (b_X9_ended_21 (some a0) (-1) (some a0) h1)
    ((rdI h1 (some a0) [7] 18).bind fun v3 =>
    b_X9_ended_21 (some a0) v3 (some a0) h1)
theorem A_X9_ended {M : hp_M} {G : va_G} {h0 : HP} (X : hp_X M G h0 "RenamedWordsModel" "ended" cX9_ended 1 (some .int) [] 0 0) (a0 : Nat) (h : HP) : vv M G h0 1 (hp_End M G h0) jI h 0 [(0, LR (some a0))] [] (f_X9_ended a0 h) := by
  unfold f_X9_ended
  refine vv_aload_n (pc := 0) X (kf := 0) (i := 0) rfl 0 rfl dX9_ended_0 ?_
  refine vv_iconst (pc := 1) X dX9_ended_1 ?_
  refine vv_putI (pc := 2) (fin := false) X (fun _ z => by cases List.mem_singleton.mp z; exact fl_X9_148_7) (fun z => nomatch z) (fun z => nomatch z) dX9_ended_2 (fun h1 => ?_)
  refine vv_aload_n (pc := 5) X (kf := 0) (i := 0) rfl 0 rfl dX9_ended_5 ?_
  refine vv_aload_n (pc := 6) X (kf := 0) (i := 0) rfl 0 rfl dX9_ended_6 ?_
  refine vv_getI (pc := 7) X (fun _ z => by cases List.mem_singleton.mp z; exact fl_X9_182_7) dX9_ended_7 (fun v2 => ?_)
  refine vv_if_ne (pc := 10) (tgt := 17) X dX9_ended_10 rfl ?_ ?_
  · refine vv_aload_n (pc := 17) X (kf := 0) (i := 0) rfl 0 rfl dX9_ended_17 ?_
    refine vv_getI (pc := 18) X (fun _ z => by cases List.mem_singleton.mp z; exact fl_X9_185_7) dX9_ended_18 (fun v3 => ?_)
    exact B_X9_ended_21 X _ _ _ _
  · refine vv_iconst (pc := 13) X dX9_ended_13 ?_
    refine vv_goto (pc := 14) (tgt := 21) X dX9_ended_14 rfl ?_
    exact B_X9_ended_21 X _ _ _ _
theorem m_X9_ended {l : Launch} (hl : l.stackTraces = false) {G : va_G} (a0 : Nat) (h : HP) : ∀ r hf, f_X9_ended a0 h = some (r, hf) → Ct l yX9_ended (ws_ yX9_ended cX9_ended 1 (some .int)) 0 0 G h [.ref a0] (jI r) hf :=
  zz_ofW hl (by decide +kernel) (lv := [(0, LR (some a0))]) (by simp [lv_args, lvL, lvV, zz_rfc, zz_rfs, zz_ci, zz_cr, zz_cj, zz_cf, zz_cd]) (by simp [lg_sl, zz_rfc, zz_ci, zz_cr, zz_cj, zz_cf, zz_cd]) (fun _ X => A_X9_ended X a0 h)
