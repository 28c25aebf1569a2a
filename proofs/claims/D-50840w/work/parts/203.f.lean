/-! STAGE 1c: functions and contracts (printed by gen/mkfuncs.py). -/
set_option maxRecDepth 100000
set_option linter.unusedVariables false
-- X10_next RenamedWords$Reader.next()V
noncomputable def b_X10_next_26 (r0 : Option Nat → HP → Option ((Unit) × HP)) (x0 : Option Nat) (h : HP) : Option ((Unit) × HP) :=
  (rdI h x0 [8, 12] 1).bind fun v6 =>
  (wrI h x0 [8, 12] 1 (v6 + 1)).bind fun h7 =>
  r0 x0 h7
theorem B_X10_next_26 {M : hp_M} {G : va_G} {h0 : HP} (X : hp_X M G h0 "RenamedWords$Reader" "next" cX10_next 3 none [] 6 251) (r0 : Option Nat → HP → Option ((Unit) × HP)) (hr0 : ∀ (y0 : Option Nat) (h : HP), vv M G h0 3 (hp_End M G h0) jV h 0 [(0, LR y0)] [] (r0 y0 h)) (x0 : Option Nat) (h : HP) : vv M G h0 3 (hp_End M G h0) jV h 26 [(0, LR x0)] [] (b_X10_next_26 r0 x0 h) := by
  unfold b_X10_next_26
  refine vv_aload_n (pc := 26) X (kf := 0) (i := 0) rfl 0 rfl dX10_next_26 ?_
  refine vv_dup (pc := 27) X rfl dX10_next_27 ?_
  refine vv_getI (pc := 28) X (fun _ z => by rcases List.mem_cons.mp z with rfl | z; exact fl_X10_44_8; cases List.mem_singleton.mp z; exact fl_X10_44_12) dX10_next_28 (fun v6 => ?_)
  refine vv_iconst (pc := 31) X dX10_next_31 ?_
  refine vv_iadd (pc := 32) X dX10_next_32 ?_
  refine vv_putI (pc := 33) (fin := false) X (fun _ z => by rcases List.mem_cons.mp z with rfl | z; exact fl_X10_44_8; cases List.mem_singleton.mp z; exact fl_X10_44_12) (fun z => nomatch z) (fun z => nomatch z) dX10_next_33 (fun h7 => ?_)
  refine vv_goto (pc := 36) (tgt := 0) X dX10_next_36 rfl ?_
  exact hr0 _ _
noncomputable def b_X10_next_306 (h : HP) : Option ((Unit) × HP) :=
  some ((), h)
theorem B_X10_next_306 {M : hp_M} {G : va_G} {h0 : HP} (X : hp_X M G h0 "RenamedWords$Reader" "next" cX10_next 3 none [] 6 251) (h : HP) : vv M G h0 3 (hp_End M G h0) jV h 306 [] [] (b_X10_next_306 h) := by
  unfold b_X10_next_306
  exact vv_vreturn X rfl rfl dX10_next_306
noncomputable def b_X10_next_303 (s0 : Option Nat) (s1 : Option Nat) (h : HP) : Option ((Unit) × HP) :=
  (wrR h s1 [8, 12] 4 s0).bind fun h27 =>
  b_X10_next_306 h27
theorem B_X10_next_303 {M : hp_M} {G : va_G} {h0 : HP} (X : hp_X M G h0 "RenamedWords$Reader" "next" cX10_next 3 none [] 6 251) (s0 : Option Nat) (s1 : Option Nat) (h : HP) : vv M G h0 3 (hp_End M G h0) jV h 303 [] [LR s0, LR s1] (b_X10_next_303 s0 s1 h) := by
  unfold b_X10_next_303
  refine vv_putR (pc := 303) (ty9 := (.object "RenamedWords$Sort")) (fin := false) X (fun _ z => by rcases List.mem_cons.mp z with rfl | z; exact fl_X10_28_8; cases List.mem_singleton.mp z; exact fl_X10_28_12) (fun z => nomatch z) (fun z => nomatch z) (by decide +kernel) rfl dX10_next_303 (fun h27 => ?_)
  exact B_X10_next_306 X _
noncomputable def b_X10_next_294 (s0 : Option Nat) (h : HP) : Option ((Unit) × HP) :=
  b_X10_next_303 (hp_c h 103) s0 h
theorem B_X10_next_294 {M : hp_M} {G : va_G} {h0 : HP} (X : hp_X M G h0 "RenamedWords$Reader" "next" cX10_next 3 none [] 6 251) (s0 : Option Nat) (h : HP) : vv M G h0 3 (hp_End M G h0) jV h 294 [] [LR s0] (b_X10_next_294 s0 h) := by
  unfold b_X10_next_294
  refine vv_gets (pc := 294) (w := LR (hp_c h 103)) X (gs_4 _) rfl q906 dX10_next_294 ?_
  refine vv_goto (pc := 297) (tgt := 303) X dX10_next_297 rfl ?_
  exact B_X10_next_303 X _ _ _
noncomputable def b_X10_next_242 (r184 : Option Nat → HP → Option ((Unit) × HP)) (x0 : Option Nat) (h : HP) : Option ((Unit) × HP) :=
  (rdI h x0 [8, 12] 1).bind fun v39 =>
  (wrI h x0 [8, 12] 1 (v39 + 1)).bind fun h40 =>
  r184 x0 h40
theorem B_X10_next_242 {M : hp_M} {G : va_G} {h0 : HP} (X : hp_X M G h0 "RenamedWords$Reader" "next" cX10_next 3 none [] 6 251) (r184 : Option Nat → HP → Option ((Unit) × HP)) (hr184 : ∀ (y0 : Option Nat) (h : HP), vv M G h0 3 (hp_End M G h0) jV h 184 [(0, LR y0)] [] (r184 y0 h)) (x0 : Option Nat) (h : HP) : vv M G h0 3 (hp_End M G h0) jV h 242 [(0, LR x0)] [] (b_X10_next_242 r184 x0 h) := by
  unfold b_X10_next_242
  refine vv_aload_n (pc := 242) X (kf := 0) (i := 0) rfl 0 rfl dX10_next_242 ?_
  refine vv_dup (pc := 243) X rfl dX10_next_243 ?_
  refine vv_getI (pc := 244) X (fun _ z => by rcases List.mem_cons.mp z with rfl | z; exact fl_X10_44_8; cases List.mem_singleton.mp z; exact fl_X10_44_12) dX10_next_244 (fun v39 => ?_)
  refine vv_iconst (pc := 247) X dX10_next_247 ?_
  refine vv_iadd (pc := 248) X dX10_next_248 ?_
  refine vv_putI (pc := 249) (fin := false) X (fun _ z => by rcases List.mem_cons.mp z with rfl | z; exact fl_X10_44_8; cases List.mem_singleton.mp z; exact fl_X10_44_12) (fun z => nomatch z) (fun z => nomatch z) dX10_next_249 (fun h40 => ?_)
  refine vv_goto (pc := 252) (tgt := 184) X dX10_next_252 rfl ?_
  exact hr184 _ _
noncomputable def c_X10_next_184 (r184 : Option Nat → HP → Option ((Unit) × HP)) (x0 : Option Nat) (h : HP) : Option ((Unit) × HP) :=
  (rdI h x0 [8, 12] 1).bind fun v29 =>
  (rcv h x0 [8, 12]).bind fun b32 =>
  hb (f_X10_see b32 v29 h) fun v30 h31 =>
  hb (f_X1_in (iL v30) (48 : Int64) (57 : Int64) h31) fun v34 h35 =>
  iEQ v34 0
    ((wrR h35 x0 [8, 12] 4 (hp_c h35 102)).bind fun h36 =>
    b_X10_next_306 h36)
    ((rdI h35 x0 [8, 12] 1).bind fun v37 =>
    (rdI h35 x0 [8, 12] 2).bind fun v38 =>
    iLE 6 (v37 - v38)
      (b_X10_next_242 r184 x0 h35)
      ((rdI h35 x0 [8, 12] 3).bind fun v41 =>
      (rdI h35 x0 [8, 12] 1).bind fun v42 =>
      (rcv h35 x0 [8, 12]).bind fun b45 =>
      hb (f_X10_see b45 v42 h35) fun v43 h44 =>
      (wrI h44 x0 [8, 12] 3 (((10 * v41) + v43) - 48)).bind fun h47 =>
      b_X10_next_242 r184 x0 h47))
noncomputable def b_X10_next_184 : Option Nat → HP → Option ((Unit) × HP) := fx (fun _ _ => none) (c_X10_next_184) FU
theorem C_X10_next_184 {M : hp_M} {G : va_G} {h0 : HP} (X : hp_X M G h0 "RenamedWords$Reader" "next" cX10_next 3 none [] 6 251) (r184 : Option Nat → HP → Option ((Unit) × HP)) (hr184 : ∀ (y0 : Option Nat) (h : HP), vv M G h0 3 (hp_End M G h0) jV h 184 [(0, LR y0)] [] (r184 y0 h)) (x0 : Option Nat) (h : HP) : vv M G h0 3 (hp_End M G h0) jV h 184 [(0, LR x0)] [] (c_X10_next_184 r184 x0 h) := by
  unfold c_X10_next_184
  refine vv_aload_n (pc := 184) X (kf := 0) (i := 0) rfl 0 rfl dX10_next_184 ?_
  refine vv_aload_n (pc := 185) X (kf := 0) (i := 0) rfl 0 rfl dX10_next_185 ?_
  refine vv_getI (pc := 186) X (fun _ z => by rcases List.mem_cons.mp z with rfl | z; exact fl_X10_44_8; cases List.mem_singleton.mp z; exact fl_X10_44_12) dX10_next_186 (fun v29 => ?_)
  refine vv_rcv (fun b32 t9 c9 fs9 e33 g9 k9 => ?_)
  refine vv_callI (pc := 189) (stv := [.int (iI v29)].reverse ++ .ref b32 :: List.map lvV []) (rest := []) (by rw [e33]; rfl) (fun r8 k8 e8 => by
      rcases List.mem_cons.mp k9 with rfl | k9
      · exact zz_callP X (m_X10_see (hlM X) _ _ _ _ _ e8) g9 rfl q865 q867 q866 qs2 rfl q165 q869 nh_X10 rfl (by decide) (by decide) (Nat.le_of_ble_eq_true rfl) dX10_next_189
      cases List.mem_singleton.mp k9
      exact zz_callP X (m_X10_see (hlM X) _ _ _ _ _ e8) g9 rfl q865 q867 q866 qs2 rfl q165 q869 nh_X10 rfl (by decide) (by decide) (Nat.le_of_ble_eq_true rfl) dX10_next_189) (fun v30 h31 => ?_)
  refine vv_i2l (pc := 192) X dX10_next_192 ?_
  refine vv_ldc2 (pc := 193) X q902 dX10_next_193 ?_
  refine vv_ldc2 (pc := 196) X q903 dX10_next_196 ?_
  refine vv_callI (pc := 199) (rest := []) (by rfl) (fun r8 k8 e8 => zz_callSN X (m_X1_in (hlM X) _ _ _ _ _ _ e8) q872 q873 q132 q874 nh_X1 rfl (by decide) (by decide) (Nat.le_of_ble_eq_true rfl) dX10_next_199) (fun v34 h35 => ?_)
  refine vv_if_eq (pc := 202) (tgt := 255) X dX10_next_202 rfl ?_ ?_
  · refine vv_aload_n (pc := 255) X (kf := 0) (i := 0) rfl 0 rfl dX10_next_255 ?_
    refine vv_gets (pc := 256) (w := LR (hp_c h35 102)) X (gs_3 _) rfl q904 dX10_next_256 ?_
    refine vv_putR (pc := 259) (ty9 := (.object "RenamedWords$Sort")) (fin := false) X (fun _ z => by rcases List.mem_cons.mp z with rfl | z; exact fl_X10_28_8; cases List.mem_singleton.mp z; exact fl_X10_28_12) (fun z => nomatch z) (fun z => nomatch z) (by decide +kernel) rfl dX10_next_259 (fun h36 => ?_)
    refine vv_goto (pc := 262) (tgt := 306) X dX10_next_262 rfl ?_
    exact vv_sub [] (by rfl) (B_X10_next_306 X _)
  · refine vv_aload_n (pc := 205) X (kf := 0) (i := 0) rfl 0 rfl dX10_next_205 ?_
    refine vv_getI (pc := 206) X (fun _ z => by rcases List.mem_cons.mp z with rfl | z; exact fl_X10_44_8; cases List.mem_singleton.mp z; exact fl_X10_44_12) dX10_next_206 (fun v37 => ?_)
    refine vv_aload_n (pc := 209) X (kf := 0) (i := 0) rfl 0 rfl dX10_next_209 ?_
    refine vv_getI (pc := 210) X (fun _ z => by rcases List.mem_cons.mp z with rfl | z; exact fl_X10_51_8; cases List.mem_singleton.mp z; exact fl_X10_51_12) dX10_next_210 (fun v38 => ?_)
    refine vv_isub (pc := 213) X dX10_next_213 ?_
    refine vv_bipush (pc := 214) X (by decide) dX10_next_214 ?_
    refine vv_icmp_ge (pc := 216) (tgt := 242) X dX10_next_216 rfl ?_ ?_
    · exact B_X10_next_242 X r184 hr184 _ _
    · refine vv_aload_n (pc := 219) X (kf := 0) (i := 0) rfl 0 rfl dX10_next_219 ?_
      refine vv_bipush (pc := 220) X (by decide) dX10_next_220 ?_
      refine vv_aload_n (pc := 222) X (kf := 0) (i := 0) rfl 0 rfl dX10_next_222 ?_
      refine vv_getI (pc := 223) X (fun _ z => by rcases List.mem_cons.mp z with rfl | z; exact fl_X10_80_8; cases List.mem_singleton.mp z; exact fl_X10_80_12) dX10_next_223 (fun v41 => ?_)
      refine vv_imul (pc := 226) X dX10_next_226 ?_
      refine vv_aload_n (pc := 227) X (kf := 0) (i := 0) rfl 0 rfl dX10_next_227 ?_
      refine vv_aload_n (pc := 228) X (kf := 0) (i := 0) rfl 0 rfl dX10_next_228 ?_
      refine vv_getI (pc := 229) X (fun _ z => by rcases List.mem_cons.mp z with rfl | z; exact fl_X10_44_8; cases List.mem_singleton.mp z; exact fl_X10_44_12) dX10_next_229 (fun v42 => ?_)
      refine vv_rcv (fun b45 t9 c9 fs9 e46 g9 k9 => ?_)
      refine vv_callI (pc := 232) (stv := [.int (iI v42)].reverse ++ .ref b45 :: List.map lvV [LI (10 * v41), LR x0]) (rest := [LI (10 * v41), LR x0]) (by rw [e46]; rfl) (fun r8 k8 e8 => by
          rcases List.mem_cons.mp k9 with rfl | k9
          · exact zz_callP X (m_X10_see (hlM X) _ _ _ _ _ e8) g9 rfl q865 q867 q866 qs2 rfl q165 q869 nh_X10 rfl (by decide) (by decide) (Nat.le_of_ble_eq_true rfl) dX10_next_232
          cases List.mem_singleton.mp k9
          exact zz_callP X (m_X10_see (hlM X) _ _ _ _ _ e8) g9 rfl q865 q867 q866 qs2 rfl q165 q869 nh_X10 rfl (by decide) (by decide) (Nat.le_of_ble_eq_true rfl) dX10_next_232) (fun v43 h44 => ?_)
      refine vv_iadd (pc := 235) X dX10_next_235 ?_
      refine vv_bipush (pc := 236) X (by decide) dX10_next_236 ?_
      refine vv_isub (pc := 238) X dX10_next_238 ?_
      refine vv_putI (pc := 239) (fin := false) X (fun _ z => by rcases List.mem_cons.mp z with rfl | z; exact fl_X10_80_8; cases List.mem_singleton.mp z; exact fl_X10_80_12) (fun z => nomatch z) (fun z => nomatch z) dX10_next_239 (fun h47 => ?_)
      exact B_X10_next_242 X r184 hr184 _ _
theorem B_X10_next_184 {M : hp_M} {G : va_G} {h0 : HP} (X : hp_X M G h0 "RenamedWords$Reader" "next" cX10_next 3 none [] 6 251) : ∀ (x0 : Option Nat) (h : HP), vv M G h0 3 (hp_End M G h0) jV h 184 [(0, LR x0)] [] (b_X10_next_184 x0 h) := by
  unfold b_X10_next_184
  generalize FU = n
  induction n with
  | zero => intro x0 h; exact vv_none
  | succ n ih => exact C_X10_next_184 X _ ih
noncomputable def c_X10_next_99 (r99 : Option Nat → Option Nat → HP → Option ((Unit) × HP)) (x0 : Option Nat) (x2 : Option Nat) (h : HP) : Option ((Unit) × HP) :=
  (rdI h x0 [8, 12] 1).bind fun v54 =>
  (rcv h x0 [8, 12]).bind fun b57 =>
  hb (f_X10_see b57 v54 h) fun v55 h56 =>
  hb (f_X1_in (iL v55) (97 : Int64) (122 : Int64) h56) fun v59 h60 =>
  iEQ v59 0
    ((rcv h60 x2 [25]).bind fun b63 =>
    hb (f_J10_toString b63 h60) fun v61 h62 =>
    (wrR h62 x0 [8, 12] 5 v61).bind fun h65 =>
    (wrR h65 x0 [8, 12] 4 (hp_c h65 101)).bind fun h66 =>
    b_X10_next_306 h66)
    ((rdI h60 x0 [8, 12] 1).bind fun v67 =>
    (rcv h60 x0 [8, 12]).bind fun b70 =>
    hb (f_X10_see b70 v67 h60) fun v68 h69 =>
    (rcv h69 x2 [25]).bind fun b74 =>
    hb (f_J10_append_3 b74 (iC v68) h69) fun v72 h73 =>
    (rdI h73 x0 [8, 12] 1).bind fun v76 =>
    (wrI h73 x0 [8, 12] 1 (v76 + 1)).bind fun h77 =>
    r99 x0 x2 h77)
noncomputable def b_X10_next_99 : Option Nat → Option Nat → HP → Option ((Unit) × HP) := fx (fun _ _ _ => none) (c_X10_next_99) FU
theorem C_X10_next_99 {M : hp_M} {G : va_G} {h0 : HP} (X : hp_X M G h0 "RenamedWords$Reader" "next" cX10_next 3 none [] 6 251) (r99 : Option Nat → Option Nat → HP → Option ((Unit) × HP)) (hr99 : ∀ (y0 : Option Nat) (y2 : Option Nat) (h : HP), vv M G h0 3 (hp_End M G h0) jV h 99 [(0, LR y0), (2, LR y2)] [] (r99 y0 y2 h)) (x0 : Option Nat) (x2 : Option Nat) (h : HP) : vv M G h0 3 (hp_End M G h0) jV h 99 [(0, LR x0), (2, LR x2)] [] (c_X10_next_99 r99 x0 x2 h) := by
  unfold c_X10_next_99
  refine vv_aload_n (pc := 99) X (kf := 0) (i := 0) rfl 0 rfl dX10_next_99 ?_
  refine vv_aload_n (pc := 100) X (kf := 0) (i := 0) rfl 0 rfl dX10_next_100 ?_
  refine vv_getI (pc := 101) X (fun _ z => by rcases List.mem_cons.mp z with rfl | z; exact fl_X10_44_8; cases List.mem_singleton.mp z; exact fl_X10_44_12) dX10_next_101 (fun v54 => ?_)
  refine vv_rcv (fun b57 t9 c9 fs9 e58 g9 k9 => ?_)
  refine vv_callI (pc := 104) (stv := [.int (iI v54)].reverse ++ .ref b57 :: List.map lvV []) (rest := []) (by rw [e58]; rfl) (fun r8 k8 e8 => by
      rcases List.mem_cons.mp k9 with rfl | k9
      · exact zz_callP X (m_X10_see (hlM X) _ _ _ _ _ e8) g9 rfl q865 q867 q866 qs2 rfl q165 q869 nh_X10 rfl (by decide) (by decide) (Nat.le_of_ble_eq_true rfl) dX10_next_104
      cases List.mem_singleton.mp k9
      exact zz_callP X (m_X10_see (hlM X) _ _ _ _ _ e8) g9 rfl q865 q867 q866 qs2 rfl q165 q869 nh_X10 rfl (by decide) (by decide) (Nat.le_of_ble_eq_true rfl) dX10_next_104) (fun v55 h56 => ?_)
  refine vv_i2l (pc := 107) X dX10_next_107 ?_
  refine vv_ldc2 (pc := 108) X q870 dX10_next_108 ?_
  refine vv_ldc2 (pc := 111) X q871 dX10_next_111 ?_
  refine vv_callI (pc := 114) (rest := []) (by rfl) (fun r8 k8 e8 => zz_callSN X (m_X1_in (hlM X) _ _ _ _ _ _ e8) q872 q873 q132 q874 nh_X1 rfl (by decide) (by decide) (Nat.le_of_ble_eq_true rfl) dX10_next_114) (fun v59 h60 => ?_)
  refine vv_if_eq (pc := 117) (tgt := 147) X dX10_next_117 rfl ?_ ?_
  · refine vv_aload_n (pc := 147) X (kf := 0) (i := 0) rfl 0 rfl dX10_next_147 ?_
    refine vv_aload_n (pc := 148) X (kf := 2) (i := 2) rfl 1 rfl dX10_next_148 ?_
    refine vv_rcv (fun b63 t9 c9 fs9 e64 g9 k9 => ?_)
    cases List.mem_singleton.mp k9
    refine vv_callR (pc := 149) (rest := [LR x0]) (by rw [e64]; rfl) (fun r8 k8 e8 => zz_callV X (m_J10_toString (hlM X) _ _ _ _ e8) g9 rfl rfl q899 q497 q498 q145 q499 nh_J10 rfl (by decide) (by decide) (Nat.le_of_ble_eq_true rfl) dX10_next_149) (fun v61 h62 => ?_)
    refine vv_putR (pc := 152) (ty9 := (.object "java/lang/String")) (fin := false) X (fun _ z => by rcases List.mem_cons.mp z with rfl | z; exact fl_X10_33_8; cases List.mem_singleton.mp z; exact fl_X10_33_12) (fun z => nomatch z) (fun z => nomatch z) (by decide +kernel) rfl dX10_next_152 (fun h65 => ?_)
    refine vv_aload_n (pc := 155) X (kf := 0) (i := 0) rfl 0 rfl dX10_next_155 ?_
    refine vv_gets (pc := 156) (w := LR (hp_c h65 101)) X (gs_2 _) rfl q900 dX10_next_156 ?_
    refine vv_putR (pc := 159) (ty9 := (.object "RenamedWords$Sort")) (fin := false) X (fun _ z => by rcases List.mem_cons.mp z with rfl | z; exact fl_X10_28_8; cases List.mem_singleton.mp z; exact fl_X10_28_12) (fun z => nomatch z) (fun z => nomatch z) (by decide +kernel) rfl dX10_next_159 (fun h66 => ?_)
    refine vv_goto (pc := 162) (tgt := 306) X dX10_next_162 rfl ?_
    exact vv_sub [] (by rfl) (B_X10_next_306 X _)
  · refine vv_aload_n (pc := 120) X (kf := 2) (i := 2) rfl 1 rfl dX10_next_120 ?_
    refine vv_aload_n (pc := 121) X (kf := 0) (i := 0) rfl 0 rfl dX10_next_121 ?_
    refine vv_aload_n (pc := 122) X (kf := 0) (i := 0) rfl 0 rfl dX10_next_122 ?_
    refine vv_getI (pc := 123) X (fun _ z => by rcases List.mem_cons.mp z with rfl | z; exact fl_X10_44_8; cases List.mem_singleton.mp z; exact fl_X10_44_12) dX10_next_123 (fun v67 => ?_)
    refine vv_rcv (fun b70 t9 c9 fs9 e71 g9 k9 => ?_)
    refine vv_callI (pc := 126) (stv := [.int (iI v67)].reverse ++ .ref b70 :: List.map lvV [LR x2]) (rest := [LR x2]) (by rw [e71]; rfl) (fun r8 k8 e8 => by
        rcases List.mem_cons.mp k9 with rfl | k9
        · exact zz_callP X (m_X10_see (hlM X) _ _ _ _ _ e8) g9 rfl q865 q867 q866 qs2 rfl q165 q869 nh_X10 rfl (by decide) (by decide) (Nat.le_of_ble_eq_true rfl) dX10_next_126
        cases List.mem_singleton.mp k9
        exact zz_callP X (m_X10_see (hlM X) _ _ _ _ _ e8) g9 rfl q865 q867 q866 qs2 rfl q165 q869 nh_X10 rfl (by decide) (by decide) (Nat.le_of_ble_eq_true rfl) dX10_next_126) (fun v68 h69 => ?_)
    refine vv_i2c (pc := 129) X dX10_next_129 ?_
    refine vv_rcv (fun b74 t9 c9 fs9 e75 g9 k9 => ?_)
    cases List.mem_singleton.mp k9
    refine vv_callR (pc := 130) (rest := []) (by rw [e75]; rfl) (fun r8 k8 e8 => zz_callV X (m_J10_append_3 (hlM X) _ _ _ _ _ e8) g9 rfl rfl q877 q878 q879 q145 q880 nh_J10 rfl (by decide) (by decide) (Nat.le_of_ble_eq_true rfl) dX10_next_130) (fun v72 h73 => ?_)
    refine vv_pop (pc := 133) X rfl dX10_next_133 ?_
    refine vv_aload_n (pc := 134) X (kf := 0) (i := 0) rfl 0 rfl dX10_next_134 ?_
    refine vv_dup (pc := 135) X rfl dX10_next_135 ?_
    refine vv_getI (pc := 136) X (fun _ z => by rcases List.mem_cons.mp z with rfl | z; exact fl_X10_44_8; cases List.mem_singleton.mp z; exact fl_X10_44_12) dX10_next_136 (fun v76 => ?_)
    refine vv_iconst (pc := 139) X dX10_next_139 ?_
    refine vv_iadd (pc := 140) X dX10_next_140 ?_
    refine vv_putI (pc := 141) (fin := false) X (fun _ z => by rcases List.mem_cons.mp z with rfl | z; exact fl_X10_44_8; cases List.mem_singleton.mp z; exact fl_X10_44_12) (fun z => nomatch z) (fun z => nomatch z) dX10_next_141 (fun h77 => ?_)
    refine vv_goto (pc := 144) (tgt := 99) X dX10_next_144 rfl ?_
    exact hr99 _ _ _
theorem B_X10_next_99 {M : hp_M} {G : va_G} {h0 : HP} (X : hp_X M G h0 "RenamedWords$Reader" "next" cX10_next 3 none [] 6 251) : ∀ (x0 : Option Nat) (x2 : Option Nat) (h : HP), vv M G h0 3 (hp_End M G h0) jV h 99 [(0, LR x0), (2, LR x2)] [] (b_X10_next_99 x0 x2 h) := by
  unfold b_X10_next_99
  generalize FU = n
  induction n with
  | zero => intro x0 x2 h; exact vv_none
  | succ n ih => exact C_X10_next_99 X _ ih
noncomputable def c_X10_next_0 (r0 : Option Nat → HP → Option ((Unit) × HP)) (x0 : Option Nat) (h : HP) : Option ((Unit) × HP) :=
  (rdI h x0 [8, 12] 1).bind fun v1 =>
  (rcv h x0 [8, 12]).bind fun b4 =>
  hb (f_X10_see b4 v1 h) fun v2 h3 =>
  iEQ v2 32
    (b_X10_next_26 r0 x0 h3)
    ((rdI h3 x0 [8, 12] 1).bind fun v8 =>
    (rcv h3 x0 [8, 12]).bind fun b11 =>
    hb (f_X10_see b11 v8 h3) fun v9 h10 =>
    iEQ v9 10
      (b_X10_next_26 r0 x0 h10)
      ((rdI h10 x0 [8, 12] 1).bind fun v13 =>
      (wrI h10 x0 [8, 12] 2 v13).bind fun h14 =>
      (wrR h14 x0 [8, 12] 5 (hp_c h14 3)).bind fun h15 =>
      (rdI h15 x0 [8, 12] 1).bind fun v16 =>
      (rcv h15 x0 [8, 12]).bind fun b19 =>
      hb (f_X10_see b19 v16 h15) fun v17 h18 =>
      iEQ v17 (-1)
        ((wrR h18 x0 [8, 12] 4 (hp_c h18 100)).bind fun h78 =>
        b_X10_next_306 h78)
        (hb (f_X1_in (iL v17) (97 : Int64) (122 : Int64) h18) fun v21 h22 =>
        iEQ v21 0
          (hb (f_X1_in (iL v17) (48 : Int64) (57 : Int64) h22) fun v23 h24 =>
          iEQ v23 0
            ((rdI h24 x0 [8, 12] 1).bind fun v25 =>
            (wrI h24 x0 [8, 12] 1 (v25 + 1)).bind fun h26 =>
            iEQ v17 59
              (b_X10_next_294 x0 h26)
              (iEQ v17 40
                (b_X10_next_294 x0 h26)
                (iEQ v17 41
                  (b_X10_next_294 x0 h26)
                  (b_X10_next_303 (hp_c h26 104) x0 h26))))
            ((wrI h24 x0 [8, 12] 3 0).bind fun h28 =>
            b_X10_next_184 x0 h28))
          (hb (nwO h22 (hp_n h22 + 2) 25 [.inr (.inl none), .inl 0, .inl 0, .inl 0] 4) fun v48 h49 =>
          (v48).bind fun b52 =>
          hb (f_J10_init b52 h49) fun _ h51 =>
          b_X10_next_99 x0 v48 h51))))
noncomputable def b_X10_next_0 : Option Nat → HP → Option ((Unit) × HP) := fx (fun _ _ => none) (c_X10_next_0) FU
theorem C_X10_next_0 {M : hp_M} {G : va_G} {h0 : HP} (X : hp_X M G h0 "RenamedWords$Reader" "next" cX10_next 3 none [] 6 251) (r0 : Option Nat → HP → Option ((Unit) × HP)) (hr0 : ∀ (y0 : Option Nat) (h : HP), vv M G h0 3 (hp_End M G h0) jV h 0 [(0, LR y0)] [] (r0 y0 h)) (x0 : Option Nat) (h : HP) : vv M G h0 3 (hp_End M G h0) jV h 0 [(0, LR x0)] [] (c_X10_next_0 r0 x0 h) := by
  unfold c_X10_next_0
  refine vv_aload_n (pc := 0) X (kf := 0) (i := 0) rfl 0 rfl dX10_next_0 ?_
  refine vv_aload_n (pc := 1) X (kf := 0) (i := 0) rfl 0 rfl dX10_next_1 ?_
  refine vv_getI (pc := 2) X (fun _ z => by rcases List.mem_cons.mp z with rfl | z; exact fl_X10_44_8; cases List.mem_singleton.mp z; exact fl_X10_44_12) dX10_next_2 (fun v1 => ?_)
  refine vv_rcv (fun b4 t9 c9 fs9 e5 g9 k9 => ?_)
  refine vv_callI (pc := 5) (stv := [.int (iI v1)].reverse ++ .ref b4 :: List.map lvV []) (rest := []) (by rw [e5]; rfl) (fun r8 k8 e8 => by
      rcases List.mem_cons.mp k9 with rfl | k9
      · exact zz_callP X (m_X10_see (hlM X) _ _ _ _ _ e8) g9 rfl q865 q867 q866 qs2 rfl q165 q869 nh_X10 rfl (by decide) (by decide) (Nat.le_of_ble_eq_true rfl) dX10_next_5
      cases List.mem_singleton.mp k9
      exact zz_callP X (m_X10_see (hlM X) _ _ _ _ _ e8) g9 rfl q865 q867 q866 qs2 rfl q165 q869 nh_X10 rfl (by decide) (by decide) (Nat.le_of_ble_eq_true rfl) dX10_next_5) (fun v2 h3 => ?_)
  refine vv_bipush (pc := 8) X (by decide) dX10_next_8 ?_
  refine vv_icmp_eq (pc := 10) (tgt := 26) X dX10_next_10 rfl ?_ ?_
  · exact B_X10_next_26 X r0 hr0 _ _
  · refine vv_aload_n (pc := 13) X (kf := 0) (i := 0) rfl 0 rfl dX10_next_13 ?_
    refine vv_aload_n (pc := 14) X (kf := 0) (i := 0) rfl 0 rfl dX10_next_14 ?_
    refine vv_getI (pc := 15) X (fun _ z => by rcases List.mem_cons.mp z with rfl | z; exact fl_X10_44_8; cases List.mem_singleton.mp z; exact fl_X10_44_12) dX10_next_15 (fun v8 => ?_)
    refine vv_rcv (fun b11 t9 c9 fs9 e12 g9 k9 => ?_)
    refine vv_callI (pc := 18) (stv := [.int (iI v8)].reverse ++ .ref b11 :: List.map lvV []) (rest := []) (by rw [e12]; rfl) (fun r8 k8 e8 => by
        rcases List.mem_cons.mp k9 with rfl | k9
        · exact zz_callP X (m_X10_see (hlM X) _ _ _ _ _ e8) g9 rfl q865 q867 q866 qs2 rfl q165 q869 nh_X10 rfl (by decide) (by decide) (Nat.le_of_ble_eq_true rfl) dX10_next_18
        cases List.mem_singleton.mp k9
        exact zz_callP X (m_X10_see (hlM X) _ _ _ _ _ e8) g9 rfl q865 q867 q866 qs2 rfl q165 q869 nh_X10 rfl (by decide) (by decide) (Nat.le_of_ble_eq_true rfl) dX10_next_18) (fun v9 h10 => ?_)
    refine vv_bipush (pc := 21) X (by decide) dX10_next_21 ?_
    refine vv_icmp_ne (pc := 23) (tgt := 39) X dX10_next_23 rfl ?_ ?_
    · refine vv_aload_n (pc := 39) X (kf := 0) (i := 0) rfl 0 rfl dX10_next_39 ?_
      refine vv_aload_n (pc := 40) X (kf := 0) (i := 0) rfl 0 rfl dX10_next_40 ?_
      refine vv_getI (pc := 41) X (fun _ z => by rcases List.mem_cons.mp z with rfl | z; exact fl_X10_44_8; cases List.mem_singleton.mp z; exact fl_X10_44_12) dX10_next_41 (fun v13 => ?_)
      refine vv_putI (pc := 44) (fin := false) X (fun _ z => by rcases List.mem_cons.mp z with rfl | z; exact fl_X10_51_8; cases List.mem_singleton.mp z; exact fl_X10_51_12) (fun z => nomatch z) (fun z => nomatch z) dX10_next_44 (fun h14 => ?_)
      refine vv_aload_n (pc := 47) X (kf := 0) (i := 0) rfl 0 rfl dX10_next_47 ?_
      refine vv_ldcS (pc := 48) (i := 3) X (List.mem_of_getElem? (i := 3) rfl) dX10_next_48 ?_
      refine vv_putR (pc := 50) (ty9 := (.object "java/lang/String")) (fin := false) X (fun _ z => by rcases List.mem_cons.mp z with rfl | z; exact fl_X10_33_8; cases List.mem_singleton.mp z; exact fl_X10_33_12) (fun z => nomatch z) (fun z => nomatch z) (by decide +kernel) rfl dX10_next_50 (fun h15 => ?_)
      refine vv_aload_n (pc := 53) X (kf := 0) (i := 0) rfl 0 rfl dX10_next_53 ?_
      refine vv_aload_n (pc := 54) X (kf := 0) (i := 0) rfl 0 rfl dX10_next_54 ?_
      refine vv_getI (pc := 55) X (fun _ z => by rcases List.mem_cons.mp z with rfl | z; exact fl_X10_44_8; cases List.mem_singleton.mp z; exact fl_X10_44_12) dX10_next_55 (fun v16 => ?_)
      refine vv_rcv (fun b19 t9 c9 fs9 e20 g9 k9 => ?_)
      refine vv_callI (pc := 58) (stv := [.int (iI v16)].reverse ++ .ref b19 :: List.map lvV []) (rest := []) (by rw [e20]; rfl) (fun r8 k8 e8 => by
          rcases List.mem_cons.mp k9 with rfl | k9
          · exact zz_callP X (m_X10_see (hlM X) _ _ _ _ _ e8) g9 rfl q865 q867 q866 qs2 rfl q165 q869 nh_X10 rfl (by decide) (by decide) (Nat.le_of_ble_eq_true rfl) dX10_next_58
          cases List.mem_singleton.mp k9
          exact zz_callP X (m_X10_see (hlM X) _ _ _ _ _ e8) g9 rfl q865 q867 q866 qs2 rfl q165 q869 nh_X10 rfl (by decide) (by decide) (Nat.le_of_ble_eq_true rfl) dX10_next_58) (fun v17 h18 => ?_)
      refine vv_istore_n (pc := 61) (lv' := [(1, LI v17), (0, LR x0)]) X (kf := 1) (i := 1) rfl (by decide) rfl dX10_next_61 ?_
      refine vv_iload_n (pc := 62) X (kf := 1) (i := 1) rfl 0 rfl dX10_next_62 ?_
      refine vv_iconst (pc := 63) X dX10_next_63 ?_
      refine vv_icmp_ne (pc := 64) (tgt := 77) X dX10_next_64 rfl ?_ ?_
      · refine vv_iload_n (pc := 77) X (kf := 1) (i := 1) rfl 0 rfl dX10_next_77 ?_
        refine vv_i2l (pc := 78) X dX10_next_78 ?_
        refine vv_ldc2 (pc := 79) X q870 dX10_next_79 ?_
        refine vv_ldc2 (pc := 82) X q871 dX10_next_82 ?_
        refine vv_callI (pc := 85) (rest := []) (by rfl) (fun r8 k8 e8 => zz_callSN X (m_X1_in (hlM X) _ _ _ _ _ _ e8) q872 q873 q132 q874 nh_X1 rfl (by decide) (by decide) (Nat.le_of_ble_eq_true rfl) dX10_next_85) (fun v21 h22 => ?_)
        refine vv_if_eq (pc := 88) (tgt := 165) X dX10_next_88 rfl ?_ ?_
        · refine vv_iload_n (pc := 165) X (kf := 1) (i := 1) rfl 0 rfl dX10_next_165 ?_
          refine vv_i2l (pc := 166) X dX10_next_166 ?_
          refine vv_ldc2 (pc := 167) X q902 dX10_next_167 ?_
          refine vv_ldc2 (pc := 170) X q903 dX10_next_170 ?_
          refine vv_callI (pc := 173) (rest := []) (by rfl) (fun r8 k8 e8 => zz_callSN X (m_X1_in (hlM X) _ _ _ _ _ _ e8) q872 q873 q132 q874 nh_X1 rfl (by decide) (by decide) (Nat.le_of_ble_eq_true rfl) dX10_next_173) (fun v23 h24 => ?_)
          refine vv_if_eq (pc := 176) (tgt := 265) X dX10_next_176 rfl ?_ ?_
          · refine vv_aload_n (pc := 265) X (kf := 0) (i := 0) rfl 1 rfl dX10_next_265 ?_
            refine vv_dup (pc := 266) X rfl dX10_next_266 ?_
            refine vv_getI (pc := 267) X (fun _ z => by rcases List.mem_cons.mp z with rfl | z; exact fl_X10_44_8; cases List.mem_singleton.mp z; exact fl_X10_44_12) dX10_next_267 (fun v25 => ?_)
            refine vv_iconst (pc := 270) X dX10_next_270 ?_
            refine vv_iadd (pc := 271) X dX10_next_271 ?_
            refine vv_putI (pc := 272) (fin := false) X (fun _ z => by rcases List.mem_cons.mp z with rfl | z; exact fl_X10_44_8; cases List.mem_singleton.mp z; exact fl_X10_44_12) (fun z => nomatch z) (fun z => nomatch z) dX10_next_272 (fun h26 => ?_)
            refine vv_aload_n (pc := 275) X (kf := 0) (i := 0) rfl 1 rfl dX10_next_275 ?_
            refine vv_iload_n (pc := 276) X (kf := 1) (i := 1) rfl 0 rfl dX10_next_276 ?_
            refine vv_bipush (pc := 277) X (by decide) dX10_next_277 ?_
            refine vv_icmp_eq (pc := 279) (tgt := 294) X dX10_next_279 rfl ?_ ?_
            · exact vv_sub [] (by rfl) (B_X10_next_294 X _ _)
            · refine vv_iload_n (pc := 282) X (kf := 1) (i := 1) rfl 0 rfl dX10_next_282 ?_
              refine vv_bipush (pc := 283) X (by decide) dX10_next_283 ?_
              refine vv_icmp_eq (pc := 285) (tgt := 294) X dX10_next_285 rfl ?_ ?_
              · exact vv_sub [] (by rfl) (B_X10_next_294 X _ _)
              · refine vv_iload_n (pc := 288) X (kf := 1) (i := 1) rfl 0 rfl dX10_next_288 ?_
                refine vv_bipush (pc := 289) X (by decide) dX10_next_289 ?_
                refine vv_icmp_ne (pc := 291) (tgt := 300) X dX10_next_291 rfl ?_ ?_
                · refine vv_gets (pc := 300) (w := LR (hp_c h26 104)) X (gs_5 _) rfl q908 dX10_next_300 ?_
                  exact vv_sub [] (by rfl) (B_X10_next_303 X _ _ _)
                · exact vv_sub [] (by rfl) (B_X10_next_294 X _ _)
          · refine vv_aload_n (pc := 179) X (kf := 0) (i := 0) rfl 1 rfl dX10_next_179 ?_
            refine vv_iconst (pc := 180) X dX10_next_180 ?_
            refine vv_putI (pc := 181) (fin := false) X (fun _ z => by rcases List.mem_cons.mp z with rfl | z; exact fl_X10_80_8; cases List.mem_singleton.mp z; exact fl_X10_80_12) (fun z => nomatch z) (fun z => nomatch z) dX10_next_181 (fun h28 => ?_)
            exact vv_sub [1] (by rfl) (B_X10_next_184 X _ _)
        · refine vv_new (pc := 91) X tyJ10 rfl in_J10 tyJ10_ok q875 q319 q145 ndJ10 (by decide) dX10_next_91 (fun v48 h49 => ?_)
          refine vv_dup (pc := 94) X rfl dX10_next_94 ?_
          refine vv_bnd (fun b52 e53 => ?_)
          refine vv_callV (pc := 95) (rest := [LR v48]) (by rw [e53]; rfl) (fun r8 k8 e8 => zz_callI X (m_J10_init (hlM X) _ _ _ _ e8) q876 q321 q145 q322 rfl nh_J10 rfl (by decide) (by decide) (Nat.le_of_ble_eq_true rfl) dX10_next_95) (fun v50 h51 => ?_)
          refine vv_astore_n (pc := 98) (lv' := [(2, LR v48), (1, LI v17), (0, LR x0)]) X (kf := 2) (i := 2) rfl (by decide) rfl dX10_next_98 ?_
          exact vv_sub [2, 0] (by rfl) (B_X10_next_99 X _ _ _)
      · refine vv_aload_n (pc := 67) X (kf := 0) (i := 0) rfl 1 rfl dX10_next_67 ?_
        refine vv_gets (pc := 68) (w := LR (hp_c h18 100)) X (gs_1 _) rfl q856 dX10_next_68 ?_
        refine vv_putR (pc := 71) (ty9 := (.object "RenamedWords$Sort")) (fin := false) X (fun _ z => by rcases List.mem_cons.mp z with rfl | z; exact fl_X10_28_8; cases List.mem_singleton.mp z; exact fl_X10_28_12) (fun z => nomatch z) (fun z => nomatch z) (by decide +kernel) rfl dX10_next_71 (fun h78 => ?_)
        refine vv_goto (pc := 74) (tgt := 306) X dX10_next_74 rfl ?_
        exact vv_sub [] (by rfl) (B_X10_next_306 X _)
    · exact B_X10_next_26 X r0 hr0 _ _
theorem B_X10_next_0 {M : hp_M} {G : va_G} {h0 : HP} (X : hp_X M G h0 "RenamedWords$Reader" "next" cX10_next 3 none [] 6 251) : ∀ (x0 : Option Nat) (h : HP), vv M G h0 3 (hp_End M G h0) jV h 0 [(0, LR x0)] [] (b_X10_next_0 x0 h) := by
  unfold b_X10_next_0
  generalize FU = n
  induction n with
  | zero => intro x0 h; exact vv_none
  | succ n ih => exact C_X10_next_0 X _ ih
noncomputable def f_X10_next (a0 : Nat) (h : HP) : Option ((Unit) × HP) :=
  b_X10_next_0 (some a0) h
theorem A_X10_next {M : hp_M} {G : va_G} {h0 : HP} (X : hp_X M G h0 "RenamedWords$Reader" "next" cX10_next 3 none [] 6 251) (a0 : Nat) (h : HP) : vv M G h0 3 (hp_End M G h0) jV h 0 [(0, LR (some a0))] [] (f_X10_next a0 h) := by
  unfold f_X10_next
  exact B_X10_next_0 X _ _
theorem m_X10_next {l : Launch} (hl : l.stackTraces = false) {G : va_G} (a0 : Nat) (h : HP) : ∀ r hf, f_X10_next a0 h = some (r, hf) → Ct l yX10_next (ws_ yX10_next cX10_next 3 none) 6 251 G h [.ref a0] (jV r) hf :=
  zz_ofW hl (by decide +kernel) (lv := [(0, LR (some a0))]) (by simp [lv_args, lvL, lvV, zz_rfc, zz_rfs, zz_ci, zz_cr, zz_cj, zz_cf, zz_cd]) (by simp [lg_sl, zz_rfc, zz_ci, zz_cr, zz_cj, zz_cf, zz_cd]) (fun _ X => A_X10_next X a0 h)
-- X10_init RenamedWords$Reader.<init>(LRenamedWords;)V
noncomputable def f_X10_init (a0 : Nat) (a1 : Option Nat) (h : HP) : Option ((Unit) × HP) :=
  (wrR h (some a0) [8, 12] 6 a1).bind fun h1 =>
  (rdR h1 (some a0) [8, 12] 6).bind fun v2 =>
  (rdI h1 v2 [0] 5).bind fun v3 =>
  (wrI h1 (some a0) [8, 12] 0 v3).bind fun h4 =>
  (wrR h4 (some a0) [8, 12] 4 (hp_c h4 100)).bind fun h5 =>
  (wrR h5 (some a0) [8, 12] 5 (hp_c h5 3)).bind fun h6 =>
  (rcv h6 (some a0) [8, 12]).bind fun b9 =>
  hb (f_X10_next b9 h6) fun _ h8 =>
  some ((), h8)
theorem A_X10_init {M : hp_M} {G : va_G} {h0 : HP} (X : hp_X M G h0 "RenamedWords$Reader" "<init>" cX10_init 2 none [] 7 281) (a0 : Nat) (a1 : Option Nat) (h : HP) : vv M G h0 2 (hp_End M G h0) jV h 0 [(0, LR (some a0)), (1, LR a1)] [] (f_X10_init a0 a1 h) := by
  unfold f_X10_init
  refine vv_aload_n (pc := 0) X (kf := 0) (i := 0) rfl 0 rfl dX10_init_0 ?_
  refine vv_aload_n (pc := 1) X (kf := 1) (i := 1) rfl 1 rfl dX10_init_1 ?_
  refine vv_putR (pc := 2) (ty9 := (.object "RenamedWords")) (fin := true) X (fun _ z => by rcases List.mem_cons.mp z with rfl | z; exact fl_X10_3_8; cases List.mem_singleton.mp z; exact fl_X10_3_12) (fun _ => rfl) (fun _ => (fun _ z => by rcases List.mem_cons.mp z with rfl | z; exact ⟨_, rfl, rfl⟩; cases List.mem_singleton.mp z; exact ⟨_, rfl, rfl⟩)) (by decide +kernel) rfl dX10_init_2 (fun h1 => ?_)
  refine vv_aload_n (pc := 5) X (kf := 0) (i := 0) rfl 0 rfl dX10_init_5 ?_
  refine vv_objInit (pc := 6) X rfl q855 q212 q213 (by decide) (by decide) (Nat.le_of_ble_eq_true rfl) dX10_init_6 ?_
  refine vv_aload_n (pc := 9) X (kf := 0) (i := 0) rfl 0 rfl dX10_init_9 ?_
  refine vv_aload_n (pc := 10) X (kf := 0) (i := 0) rfl 0 rfl dX10_init_10 ?_
  refine vv_getR (pc := 11) X (fun _ z => by rcases List.mem_cons.mp z with rfl | z; exact fl_X10_3_8; cases List.mem_singleton.mp z; exact fl_X10_3_12) dX10_init_11 (fun v2 => ?_)
  refine vv_getI (pc := 14) X (fun _ z => by cases List.mem_singleton.mp z; exact fl_X10_15_0) dX10_init_14 (fun v3 => ?_)
  refine vv_putI (pc := 17) (fin := true) X (fun _ z => by rcases List.mem_cons.mp z with rfl | z; exact fl_X10_19_8; cases List.mem_singleton.mp z; exact fl_X10_19_12) (fun _ => rfl) (fun _ => (fun _ z => by rcases List.mem_cons.mp z with rfl | z; exact ⟨_, rfl, rfl⟩; cases List.mem_singleton.mp z; exact ⟨_, rfl, rfl⟩)) dX10_init_17 (fun h4 => ?_)
  refine vv_aload_n (pc := 20) X (kf := 0) (i := 0) rfl 0 rfl dX10_init_20 ?_
  refine vv_gets (pc := 21) (w := LR (hp_c h4 100)) X (gs_1 _) rfl q856 dX10_init_21 ?_
  refine vv_putR (pc := 24) (ty9 := (.object "RenamedWords$Sort")) (fin := false) X (fun _ z => by rcases List.mem_cons.mp z with rfl | z; exact fl_X10_28_8; cases List.mem_singleton.mp z; exact fl_X10_28_12) (fun z => nomatch z) (fun z => nomatch z) (by decide +kernel) rfl dX10_init_24 (fun h5 => ?_)
  refine vv_aload_n (pc := 27) X (kf := 0) (i := 0) rfl 0 rfl dX10_init_27 ?_
  refine vv_ldcS (pc := 28) (i := 3) X (List.mem_of_getElem? (i := 3) rfl) dX10_init_28 ?_
  refine vv_putR (pc := 30) (ty9 := (.object "java/lang/String")) (fin := false) X (fun _ z => by rcases List.mem_cons.mp z with rfl | z; exact fl_X10_33_8; cases List.mem_singleton.mp z; exact fl_X10_33_12) (fun z => nomatch z) (fun z => nomatch z) (by decide +kernel) rfl dX10_init_30 (fun h6 => ?_)
  refine vv_aload_n (pc := 33) X (kf := 0) (i := 0) rfl 0 rfl dX10_init_33 ?_
  refine vv_rcv (fun b9 t9 c9 fs9 e10 g9 k9 => ?_)
  refine vv_callV (pc := 34) (stv := [].reverse ++ .ref b9 :: List.map lvV []) (rest := []) (by rw [e10]; rfl) (fun r8 k8 e8 => by
      rcases List.mem_cons.mp k9 with rfl | k9
      · exact zz_callW X (m_X10_next (hlM X) _ _ _ _ e8) g9 rfl q859 q860 q863 q165 q864 nh_X10 rfl (by decide) (by decide) (Nat.le_of_ble_eq_true rfl) dX10_init_34
      cases List.mem_singleton.mp k9
      exact zz_callW X (m_X10_next (hlM X) _ _ _ _ e8) g9 rfl q859 q860 q862 q165 q864 nh_X10 rfl (by decide) (by decide) (Nat.le_of_ble_eq_true rfl) dX10_init_34) (fun v7 h8 => ?_)
  exact vv_vreturn X rfl rfl dX10_init_37
theorem m_X10_init {l : Launch} (hl : l.stackTraces = false) {G : va_G} (a0 : Nat) (a1 : Option Nat) (h : HP) : ∀ r hf, f_X10_init a0 a1 h = some (r, hf) → Ct l yX10_init (ws_ yX10_init cX10_init 2 none) 7 281 G h [.ref a0, va_rf a1] (jV r) hf :=
  zz_ofW hl (by decide +kernel) (lv := [(0, LR (some a0)), (1, LR a1)]) (by simp [lv_args, lvL, lvV, zz_rfc, zz_rfs, zz_ci, zz_cr, zz_cj, zz_cf, zz_cd]) (by simp [lg_sl, zz_rfc, zz_ci, zz_cr, zz_cj, zz_cf, zz_cd]) (fun _ X => A_X10_init X a0 a1 h)
-- X11_init RenamedWords$SetupReader.<init>(LRenamedWords;)V
noncomputable def f_X11_init (a0 : Nat) (a1 : Option Nat) (h : HP) : Option ((Unit) × HP) :=
  (wrR h (some a0) [8] 9 a1).bind fun h1 =>
  hb (f_X10_init a0 a1 h1) fun _ h3 =>
  hb (nwO h3 (hp_n h3 + 2) 1 [.inr (.inl none), .inr (.inl none), .inr (.inl none), .inr (.inl none), .inr (.inl none), .inr (.inl none), .inr (.inl none), .inl 0, .inr (.inl none), .inr (.inl none)] 10) fun v4 h5 =>
  hb (nwO h5 (hp_n h5 + 2) 2 [.inr (.inl none), .inr (.inl none)] 2) fun v6 h7 =>
  (v6).bind fun b10 =>
  hb (f_X3_init b10 h7) fun _ h9 =>
  (v4).bind fun b14 =>
  hb (f_X2_init b14 v6 h9) fun _ h13 =>
  (wrR h13 (some a0) [8] 7 v4).bind fun h16 =>
  some ((), h16)
theorem A_X11_init {M : hp_M} {G : va_G} {h0 : HP} (X : hp_X M G h0 "RenamedWords$SetupReader" "<init>" cX11_init 2 none [] 8 310) (a0 : Nat) (a1 : Option Nat) (h : HP) : vv M G h0 2 (hp_End M G h0) jV h 0 [(0, LR (some a0)), (1, LR a1)] [] (f_X11_init a0 a1 h) := by
  unfold f_X11_init
  refine vv_aload_n (pc := 0) X (kf := 0) (i := 0) rfl 0 rfl dX11_init_0 ?_
  refine vv_aload_n (pc := 1) X (kf := 1) (i := 1) rfl 1 rfl dX11_init_1 ?_
  refine vv_putR (pc := 2) (ty9 := (.object "RenamedWords")) (fin := true) X (fun _ z => by cases List.mem_singleton.mp z; exact fl_X11_3_8) (fun _ => rfl) (fun _ => (fun _ z => by cases List.mem_singleton.mp z; exact ⟨_, rfl, rfl⟩)) (by decide +kernel) rfl dX11_init_2 (fun h1 => ?_)
  refine vv_aload_n (pc := 5) X (kf := 0) (i := 0) rfl 0 rfl dX11_init_5 ?_
  refine vv_aload_n (pc := 6) X (kf := 1) (i := 1) rfl 1 rfl dX11_init_6 ?_
  refine vv_callV (pc := 7) (rest := []) (by rfl) (fun r8 k8 e8 => zz_callI X (m_X10_init (hlM X) _ _ _ _ _ e8) q852 q853 q165 q854 rfl nh_X10 rfl (by decide) (by decide) (Nat.le_of_ble_eq_true rfl) dX11_init_7) (fun v2 h3 => ?_)
  refine vv_aload_n (pc := 10) X (kf := 0) (i := 0) rfl 0 rfl dX11_init_10 ?_
  refine vv_new (pc := 11) X tyX2 rfl in_X2 tyX2_ok q910 q218 q133 ndX2 (by decide) dX11_init_11 (fun v4 h5 => ?_)
  refine vv_dup (pc := 14) X rfl dX11_init_14 ?_
  refine vv_new (pc := 15) X tyX3 rfl in_X3 tyX3_ok q911 q220 q134 ndX3 (by decide) dX11_init_15 (fun v6 h7 => ?_)
  refine vv_dup (pc := 18) X rfl dX11_init_18 ?_
  refine vv_bnd (fun b10 e11 => ?_)
  refine vv_callV (pc := 19) (rest := [LR v6, LR v4, LR v4, LR (some a0)]) (by rw [e11]; rfl) (fun r8 k8 e8 => zz_callIN X (m_X3_init (hlM X) _ _ _ _ e8) q912 q222 q134 q223 rfl nh_X3 rfl (by decide) (by decide) (Nat.le_of_ble_eq_true rfl) dX11_init_19) (fun v8 h9 => ?_)
  refine vv_bnd (fun b14 e15 => ?_)
  refine vv_callV (pc := 22) (rest := [LR v4, LR (some a0)]) (by rw [e15]; rfl) (fun r8 k8 e8 => zz_callI X (m_X2_init (hlM X) _ _ _ _ _ e8) q913 q620 q133 q621 rfl nh_X2 rfl (by decide) (by decide) (Nat.le_of_ble_eq_true rfl) dX11_init_22) (fun v12 h13 => ?_)
  refine vv_putR (pc := 25) (ty9 := (.object "RenamedWords$Desk")) (fin := true) X (fun _ z => by cases List.mem_singleton.mp z; exact fl_X11_25_8) (fun _ => rfl) (fun _ => (fun _ z => by cases List.mem_singleton.mp z; exact ⟨_, rfl, rfl⟩)) (by decide +kernel) rfl dX11_init_25 (fun h16 => ?_)
  exact vv_vreturn X rfl rfl dX11_init_28
theorem m_X11_init {l : Launch} (hl : l.stackTraces = false) {G : va_G} (a0 : Nat) (a1 : Option Nat) (h : HP) : ∀ r hf, f_X11_init a0 a1 h = some (r, hf) → Ct l yX11_init (ws_ yX11_init cX11_init 2 none) 8 310 G h [.ref a0, va_rf a1] (jV r) hf :=
  zz_ofW hl (by decide +kernel) (lv := [(0, LR (some a0)), (1, LR a1)]) (by simp [lv_args, lvL, lvV, zz_rfc, zz_rfs, zz_ci, zz_cr, zz_cj, zz_cf, zz_cd]) (by simp [lg_sl, zz_rfc, zz_ci, zz_cr, zz_cj, zz_cf, zz_cd]) (fun _ X => A_X11_init X a0 a1 h)
-- X10_word RenamedWords$Reader.word()Ljava/lang/String;
noncomputable def f_X10_word (a0 : Nat) (h : HP) : Option ((Option Nat) × HP) :=
  (rdR h (some a0) [8, 12] 5).bind fun v1 =>
  some (v1, h)
theorem A_X10_word {M : hp_M} {G : va_G} {h0 : HP} (X : hp_X M G h0 "RenamedWords$Reader" "word" cX10_word 1 (some (.object "java/lang/String")) [] 0 0) (a0 : Nat) (h : HP) : vv M G h0 1 (hp_End M G h0) jR h 0 [(0, LR (some a0))] [] (f_X10_word a0 h) := by
  unfold f_X10_word
  refine vv_aload_n (pc := 0) X (kf := 0) (i := 0) rfl 0 rfl dX10_word_0 ?_
  refine vv_getR (pc := 1) X (fun _ z => by rcases List.mem_cons.mp z with rfl | z; exact fl_X10_33_8; cases List.mem_singleton.mp z; exact fl_X10_33_12) dX10_word_1 (fun v1 => ?_)
  exact vv_aretO X rfl rfl dX10_word_4
theorem m_X10_word {l : Launch} (hl : l.stackTraces = false) {G : va_G} (a0 : Nat) (h : HP) : ∀ r hf, f_X10_word a0 h = some (r, hf) → Ct l yX10_word (ws_ yX10_word cX10_word 1 (some (.object "java/lang/String"))) 0 0 G h [.ref a0] (jR r) hf :=
  zz_ofW hl (by decide +kernel) (lv := [(0, LR (some a0))]) (by simp [lv_args, lvL, lvV, zz_rfc, zz_rfs, zz_ci, zz_cr, zz_cj, zz_cf, zz_cd]) (by simp [lg_sl, zz_rfc, zz_ci, zz_cr, zz_cj, zz_cf, zz_cd]) (fun _ X => A_X10_word X a0 h)
-- J17_equals java/lang/StringLatin1.equals([B[B)Z
noncomputable def c_J17_equals_9 (r9 : Option Nat → Option Nat → Int → HP → Option ((Int) × HP)) (x0 : Option Nat) (x1 : Option Nat) (x2 : Int) (h : HP) : Option ((Int) × HP) :=
  (alen h x0).bind fun v3 =>
  iLE v3 x2
    (some (1, h))
    ((aldI h .byte x0 x2).bind fun v4 =>
    (aldI h .byte x1 x2).bind fun v5 =>
    iEQ v4 v5
      (r9 x0 x1 (x2 + 1) h)
      (some (0, h)))
noncomputable def b_J17_equals_9 : Option Nat → Option Nat → Int → HP → Option ((Int) × HP) := fx (fun _ _ _ _ => none) (c_J17_equals_9) FU
theorem C_J17_equals_9 {M : hp_M} {G : va_G} {h0 : HP} (X : hp_X M G h0 "java/lang/StringLatin1" "equals" cJ17_equals 3 (some .boolean) [] 0 0) (r9 : Option Nat → Option Nat → Int → HP → Option ((Int) × HP)) (hr9 : ∀ (y0 : Option Nat) (y1 : Option Nat) (y2 : Int) (h : HP), vv M G h0 3 (hp_End M G h0) jI h 9 [(0, LR y0), (1, LR y1), (2, LI y2)] [] (r9 y0 y1 y2 h)) (x0 : Option Nat) (x1 : Option Nat) (x2 : Int) (h : HP) : vv M G h0 3 (hp_End M G h0) jI h 9 [(0, LR x0), (1, LR x1), (2, LI x2)] [] (c_J17_equals_9 r9 x0 x1 x2 h) := by
  unfold c_J17_equals_9
  refine vv_iload_n (pc := 9) X (kf := 2) (i := 2) rfl 2 rfl dJ17_equals_9 ?_
  refine vv_aload_n (pc := 10) X (kf := 0) (i := 0) rfl 0 rfl dJ17_equals_10 ?_
  refine vv_alen (pc := 11) X dJ17_equals_11 (fun v3 => ?_)
  refine vv_icmp_ge (pc := 12) (tgt := 32) X dJ17_equals_12 rfl ?_ ?_
  · refine vv_iconst (pc := 32) X dJ17_equals_32 ?_
    exact vv_iret1 X rfl rfl dJ17_equals_33
  · refine vv_aload_n (pc := 15) X (kf := 0) (i := 0) rfl 0 rfl dJ17_equals_15 ?_
    refine vv_iload_n (pc := 16) X (kf := 2) (i := 2) rfl 2 rfl dJ17_equals_16 ?_
    refine vv_baload (pc := 17) X dJ17_equals_17 (fun v4 => ?_)
    refine vv_aload_n (pc := 18) X (kf := 1) (i := 1) rfl 1 rfl dJ17_equals_18 ?_
    refine vv_iload_n (pc := 19) X (kf := 2) (i := 2) rfl 2 rfl dJ17_equals_19 ?_
    refine vv_baload (pc := 20) X dJ17_equals_20 (fun v5 => ?_)
    refine vv_icmp_eq (pc := 21) (tgt := 26) X dJ17_equals_21 rfl ?_ ?_
    · refine vv_iinc (pc := 26) (lv' := [(2, LI (x2 + 1)), (0, LR x0), (1, LR x1)]) X 2 rfl (by decide) rfl dJ17_equals_26 ?_
      refine vv_goto (pc := 29) (tgt := 9) X dJ17_equals_29 rfl ?_
      exact vv_sub [1, 2, 0] (by rfl) (hr9 _ _ _ _)
    · refine vv_iconst (pc := 24) X dJ17_equals_24 ?_
      exact vv_iret0 X rfl rfl dJ17_equals_25
theorem B_J17_equals_9 {M : hp_M} {G : va_G} {h0 : HP} (X : hp_X M G h0 "java/lang/StringLatin1" "equals" cJ17_equals 3 (some .boolean) [] 0 0) : ∀ (x0 : Option Nat) (x1 : Option Nat) (x2 : Int) (h : HP), vv M G h0 3 (hp_End M G h0) jI h 9 [(0, LR x0), (1, LR x1), (2, LI x2)] [] (b_J17_equals_9 x0 x1 x2 h) := by
  unfold b_J17_equals_9
  generalize FU = n
  induction n with
  | zero => intro x0 x1 x2 h; exact vv_none
  | succ n ih => exact C_J17_equals_9 X _ ih
noncomputable def f_J17_equals (a1 : Option Nat) (a2 : Option Nat) (h : HP) : Option ((Int) × HP) :=
  (alen h a1).bind fun v1 =>
  (alen h a2).bind fun v2 =>
  iEQ v1 v2
    (b_J17_equals_9 a1 a2 0 h)
    (some (0, h))
theorem A_J17_equals {M : hp_M} {G : va_G} {h0 : HP} (X : hp_X M G h0 "java/lang/StringLatin1" "equals" cJ17_equals 3 (some .boolean) [] 0 0) (a1 : Option Nat) (a2 : Option Nat) (h : HP) : vv M G h0 3 (hp_End M G h0) jI h 0 [(0, LR a1), (1, LR a2)] [] (f_J17_equals a1 a2 h) := by
  unfold f_J17_equals
  refine vv_aload_n (pc := 0) X (kf := 0) (i := 0) rfl 0 rfl dJ17_equals_0 ?_
  refine vv_alen (pc := 1) X dJ17_equals_1 (fun v1 => ?_)
  refine vv_aload_n (pc := 2) X (kf := 1) (i := 1) rfl 1 rfl dJ17_equals_2 ?_
  refine vv_alen (pc := 3) X dJ17_equals_3 (fun v2 => ?_)
  refine vv_icmp_ne (pc := 4) (tgt := 34) X dJ17_equals_4 rfl ?_ ?_
  · refine vv_iconst (pc := 34) X dJ17_equals_34 ?_
    exact vv_iret0 X rfl rfl dJ17_equals_35
  · refine vv_iconst (pc := 7) X dJ17_equals_7 ?_
    refine vv_istore_n (pc := 8) (lv' := [(2, LI 0), (0, LR a1), (1, LR a2)]) X (kf := 2) (i := 2) rfl (by decide) rfl dJ17_equals_8 ?_
    exact vv_sub [1, 2, 0] (by rfl) (B_J17_equals_9 X _ _ _ _)
theorem m_J17_equals {l : Launch} (hl : l.stackTraces = false) {G : va_G} (a1 : Option Nat) (a2 : Option Nat) (h : HP) : ∀ r hf, f_J17_equals a1 a2 h = some (r, hf) → Ct l yJ17_equals (ws_ yJ17_equals cJ17_equals 3 (some .boolean)) 0 0 G h [va_rf a1, va_rf a2] (jI r) hf :=
  zz_ofW hl (by decide +kernel) (lv := [(0, LR a1), (1, LR a2)]) (by simp [lv_args, lvL, lvV, zz_rfc, zz_rfs, zz_ci, zz_cr, zz_cj, zz_cf, zz_cd]) (by simp [lg_sl, zz_rfc, zz_ci, zz_cr, zz_cj, zz_cf, zz_cd]) (fun _ X => A_J17_equals X a1 a2 h)
-- J11_equals java/lang/String.equals(Ljava/lang/Object;)Z
noncomputable def b_J11_equals_55 (s0 : Int) (h : HP) : Option ((Int) × HP) :=
  rtZ s0 (some (s0, h))
theorem B_J11_equals_55 {M : hp_M} {G : va_G} {h0 : HP} (X : hp_X M G h0 "java/lang/String" "equals" cJ11_equals 3 (some .boolean) [] 1 30) (s0 : Int) (h : HP) : vv M G h0 3 (hp_End M G h0) jI h 55 [] [LI s0] (b_J11_equals_55 s0 h) := by
  unfold b_J11_equals_55
  exact vv_iretZ X rfl rfl dJ11_equals_55
noncomputable def b_J11_equals_54 (h : HP) : Option ((Int) × HP) :=
  b_J11_equals_55 0 h
theorem B_J11_equals_54 {M : hp_M} {G : va_G} {h0 : HP} (X : hp_X M G h0 "java/lang/String" "equals" cJ11_equals 3 (some .boolean) [] 1 30) (h : HP) : vv M G h0 3 (hp_End M G h0) jI h 54 [] [] (b_J11_equals_54 h) := by
  unfold b_J11_equals_54
  refine vv_iconst (pc := 54) X dJ11_equals_54 ?_
  exact B_J11_equals_55 X _ _
noncomputable def b_J11_equals_36 (x0 : Option Nat) (x2 : Option Nat) (h : HP) : Option ((Int) × HP) :=
  (rdR h x0 [26] 0).bind fun v2 =>
  (rdR h x2 [26] 0).bind fun v3 =>
  hb (f_J17_equals v2 v3 h) fun v4 h5 =>
  iEQ v4 0
    (b_J11_equals_54 h5)
    (b_J11_equals_55 1 h5)
theorem B_J11_equals_36 {M : hp_M} {G : va_G} {h0 : HP} (X : hp_X M G h0 "java/lang/String" "equals" cJ11_equals 3 (some .boolean) [] 1 30) (x0 : Option Nat) (x2 : Option Nat) (h : HP) : vv M G h0 3 (hp_End M G h0) jI h 36 [(0, LR x0), (2, LR x2)] [] (b_J11_equals_36 x0 x2 h) := by
  unfold b_J11_equals_36
  refine vv_aload_n (pc := 36) X (kf := 0) (i := 0) rfl 0 rfl dJ11_equals_36 ?_
  refine vv_getR (pc := 37) X (fun _ z => by cases List.mem_singleton.mp z; exact fl_J11_9_26) dJ11_equals_37 (fun v2 => ?_)
  refine vv_aload_n (pc := 40) X (kf := 2) (i := 2) rfl 1 rfl dJ11_equals_40 ?_
  refine vv_getR (pc := 41) X (fun _ z => by cases List.mem_singleton.mp z; exact fl_J11_9_26) dJ11_equals_41 (fun v3 => ?_)
  refine vv_callI (pc := 44) (rest := []) (by rfl) (fun r8 k8 e8 => zz_callS X (m_J17_equals (hlM X) _ _ _ _ _ e8) q961 q962 q153 q963 nh_J17 rfl (by decide) (by decide) (Nat.le_of_ble_eq_true rfl) dJ11_equals_44) (fun v4 h5 => ?_)
  refine vv_if_eq (pc := 47) (tgt := 54) X dJ11_equals_47 rfl ?_ ?_
  · exact vv_sub [] (by rfl) (B_J11_equals_54 X _)
  · refine vv_iconst (pc := 50) X dJ11_equals_50 ?_
    refine vv_goto (pc := 51) (tgt := 55) X dJ11_equals_51 rfl ?_
    exact vv_sub [] (by rfl) (B_J11_equals_55 X _ _)
noncomputable def f_J11_equals (a0 : Nat) (a1 : Option Nat) (h : HP) : Option ((Int) × HP) :=
  rEQ (some a0) a1
    (some (1, h))
    ((ins h a1 [26] []).bind fun v1 =>
    iEQ v1 0
      (b_J11_equals_54 h)
      ((chk h a1 [26]).bind fun _ =>
      iEQ 1 0
        (b_J11_equals_36 (some a0) a1 h)
        ((rdI h (some a0) [26] 1).bind fun v6 =>
        (rdI h a1 [26] 1).bind fun v7 =>
        iEQ v6 v7
          (b_J11_equals_36 (some a0) a1 h)
          (b_J11_equals_54 h))))
theorem A_J11_equals {M : hp_M} {G : va_G} {h0 : HP} (X : hp_X M G h0 "java/lang/String" "equals" cJ11_equals 3 (some .boolean) [] 1 30) (a0 : Nat) (a1 : Option Nat) (h : HP) : vv M G h0 3 (hp_End M G h0) jI h 0 [(0, LR (some a0)), (1, LR a1)] [] (f_J11_equals a0 a1 h) := by
  unfold f_J11_equals
  refine vv_aload_n (pc := 0) X (kf := 0) (i := 0) rfl 0 rfl dJ11_equals_0 ?_
  refine vv_aload_n (pc := 1) X (kf := 1) (i := 1) rfl 1 rfl dJ11_equals_1 ?_
  refine vv_acmp_ne (pc := 2) (tgt := 7) X dJ11_equals_2 rfl ?_ ?_
  · refine vv_aload_n (pc := 7) X (kf := 1) (i := 1) rfl 1 rfl dJ11_equals_7 ?_
    refine vv_instanceof (pc := 8) X ⟨q960, (fun _ z => by cases List.mem_singleton.mp z; exact ⟨_, rfl, Or.inl rfl⟩)⟩ (fun _ z => nomatch z) dJ11_equals_8 (fun v1 => ?_)
    refine vv_if_eq (pc := 11) (tgt := 54) X dJ11_equals_11 rfl ?_ ?_
    · exact vv_sub [] (by rfl) (B_J11_equals_54 X _)
    · refine vv_aload_n (pc := 14) X (kf := 1) (i := 1) rfl 1 rfl dJ11_equals_14 ?_
      refine vv_checkcast (pc := 15) X ⟨q960, (fun _ z => by cases List.mem_singleton.mp z; exact ⟨_, rfl, Or.inl rfl⟩)⟩ dJ11_equals_15 ?_
      refine vv_astore_n (pc := 18) (lv' := [(2, LR a1), (0, LR (some a0)), (1, LR a1)]) X (kf := 2) (i := 2) rfl (by decide) rfl dJ11_equals_18 ?_
      refine vv_gets (pc := 19) (w := LI 1) X (gs_0 _) rfl q436 dJ11_equals_19 ?_
      refine vv_if_eq (pc := 22) (tgt := 36) X dJ11_equals_22 rfl ?_ ?_
      · exact vv_sub [1, 0] (by rfl) (B_J11_equals_36 X _ _ _)
      · refine vv_aload_n (pc := 25) X (kf := 0) (i := 0) rfl 1 rfl dJ11_equals_25 ?_
        refine vv_getI (pc := 26) X (fun _ z => by cases List.mem_singleton.mp z; exact fl_J11_15_26) dJ11_equals_26 (fun v6 => ?_)
        refine vv_aload_n (pc := 29) X (kf := 2) (i := 2) rfl 0 rfl dJ11_equals_29 ?_
        refine vv_getI (pc := 30) X (fun _ z => by cases List.mem_singleton.mp z; exact fl_J11_15_26) dJ11_equals_30 (fun v7 => ?_)
        refine vv_icmp_ne (pc := 33) (tgt := 54) X dJ11_equals_33 rfl ?_ ?_
        · exact vv_sub [] (by rfl) (B_J11_equals_54 X _)
        · exact vv_sub [1, 0] (by rfl) (B_J11_equals_36 X _ _ _)
  · refine vv_iconst (pc := 5) X dJ11_equals_5 ?_
    exact vv_iret1 X rfl rfl dJ11_equals_6
theorem m_J11_equals {l : Launch} (hl : l.stackTraces = false) {G : va_G} (a0 : Nat) (a1 : Option Nat) (h : HP) : ∀ r hf, f_J11_equals a0 a1 h = some (r, hf) → Ct l yJ11_equals (ws_ yJ11_equals cJ11_equals 3 (some .boolean)) 1 30 G h [.ref a0, va_rf a1] (jI r) hf :=
  zz_ofW hl (by decide +kernel) (lv := [(0, LR (some a0)), (1, LR a1)]) (by simp [lv_args, lvL, lvV, zz_rfc, zz_rfs, zz_ci, zz_cr, zz_cj, zz_cf, zz_cd]) (by simp [lg_sl, zz_rfc, zz_ci, zz_cr, zz_cj, zz_cf, zz_cd]) (fun _ X => A_J11_equals X a0 a1 h)
-- J5_init_3 java/lang/Throwable.<init>(Ljava/lang/String;Ljava/lang/Throwable;ZZ)V
noncomputable def b_J5_init_3_60 (h : HP) : Option ((Unit) × HP) :=
  some ((), h)
theorem B_J5_init_3_60 {M : hp_M} {G : va_G} {h0 : HP} (X : hp_X M G h0 "java/lang/Throwable" "<init>" cJ5_init_3 5 none [] 1 28) (h : HP) : vv M G h0 5 (hp_End M G h0) jV h 60 [] [] (b_J5_init_3_60 h) := by
  unfold b_J5_init_3_60
  exact vv_vreturn X rfl rfl dJ5_init_3_60
noncomputable def f_J5_init_3 (a0 : Nat) (a1 : Option Nat) (a2 : Option Nat) (a3 : Int) (a4 : Int) (h : HP) : Option ((Unit) × HP) :=
  (wrR h (some a0) [9] 0 (some a0)).bind fun h1 =>
  (wrR h1 (some a0) [9] 1 (hp_c h1 108)).bind fun h2 =>
  (wrR h2 (some a0) [9] 2 (hp_c h2 109)).bind fun h3 =>
  iEQ a4 0
    ((wrR h3 (some a0) [9] 1 none).bind fun h4 =>
    (wrR h4 (some a0) [9] 3 a1).bind fun h5 =>
    (wrR h5 (some a0) [9] 0 a2).bind fun h6 =>
    iEQ a3 0
      ((wrR h6 (some a0) [9] 2 none).bind fun h7 =>
      b_J5_init_3_60 h7)
      (b_J5_init_3_60 h6))
    (none)
theorem A_J5_init_3 {M : hp_M} {G : va_G} {h0 : HP} (X : hp_X M G h0 "java/lang/Throwable" "<init>" cJ5_init_3 5 none [] 1 28) (a0 : Nat) (a1 : Option Nat) (a2 : Option Nat) (a3 : Int) (a4 : Int) (h : HP) : vv M G h0 5 (hp_End M G h0) jV h 0 [(0, LR (some a0)), (1, LR a1), (2, LR a2), (3, LI a3), (4, LI a4)] [] (f_J5_init_3 a0 a1 a2 a3 a4 h) := by
  unfold f_J5_init_3
  refine vv_aload_n (pc := 0) X (kf := 0) (i := 0) rfl 0 rfl dJ5_init_3_0 ?_
  refine vv_objInit (pc := 1) X rfl q298 q212 q213 (by decide) (by decide) (Nat.le_of_ble_eq_true rfl) dJ5_init_3_1 ?_
  refine vv_aload_n (pc := 4) X (kf := 0) (i := 0) rfl 0 rfl dJ5_init_3_4 ?_
  refine vv_aload_n (pc := 5) X (kf := 0) (i := 0) rfl 0 rfl dJ5_init_3_5 ?_
  refine vv_putR (pc := 6) (ty9 := (.object "java/lang/Throwable")) (fin := false) X (fun _ z => by cases List.mem_singleton.mp z; exact fl_J5_7_9) (fun z => nomatch z) (fun z => nomatch z) (by decide +kernel) rfl dJ5_init_3_6 (fun h1 => ?_)
  refine vv_aload_n (pc := 9) X (kf := 0) (i := 0) rfl 0 rfl dJ5_init_3_9 ?_
  refine vv_gets (pc := 10) (w := LR (hp_c h1 108)) X (gs_11 _) rfl q299 dJ5_init_3_10 ?_
  refine vv_putR (pc := 13) (ty9 := (.array (.object "java/lang/StackTraceElement"))) (fin := false) X (fun _ z => by cases List.mem_singleton.mp z; exact fl_J5_17_9) (fun z => nomatch z) (fun z => nomatch z) (by decide +kernel) rfl dJ5_init_3_13 (fun h2 => ?_)
  refine vv_aload_n (pc := 16) X (kf := 0) (i := 0) rfl 0 rfl dJ5_init_3_16 ?_
  refine vv_gets (pc := 17) (w := LR (hp_c h2 109)) X (gs_12 _) rfl q301 dJ5_init_3_17 ?_
  refine vv_putR (pc := 20) (ty9 := (.object "java/util/List")) (fin := false) X (fun _ z => by cases List.mem_singleton.mp z; exact fl_J5_24_9) (fun z => nomatch z) (fun z => nomatch z) (by decide +kernel) rfl dJ5_init_3_20 (fun h3 => ?_)
  refine vv_iload (pc := 23) X 4 rfl dJ5_init_3_23 ?_
  refine vv_if_eq (pc := 25) (tgt := 36) X dJ5_init_3_25 rfl ?_ ?_
  · refine vv_aload_n (pc := 36) X (kf := 0) (i := 0) rfl 0 rfl dJ5_init_3_36 ?_
    refine vv_null (pc := 37) X dJ5_init_3_37 ?_
    refine vv_putR (pc := 38) (ty9 := (.array (.object "java/lang/StackTraceElement"))) (fin := false) X (fun _ z => by cases List.mem_singleton.mp z; exact fl_J5_17_9) (fun z => nomatch z) (fun z => nomatch z) (by decide +kernel) rfl dJ5_init_3_38 (fun h4 => ?_)
    refine vv_aload_n (pc := 41) X (kf := 0) (i := 0) rfl 0 rfl dJ5_init_3_41 ?_
    refine vv_aload_n (pc := 42) X (kf := 1) (i := 1) rfl 1 rfl dJ5_init_3_42 ?_
    refine vv_putR (pc := 43) (ty9 := (.object "java/lang/String")) (fin := false) X (fun _ z => by cases List.mem_singleton.mp z; exact fl_J5_31_9) (fun z => nomatch z) (fun z => nomatch z) (by decide +kernel) rfl dJ5_init_3_43 (fun h5 => ?_)
    refine vv_aload_n (pc := 46) X (kf := 0) (i := 0) rfl 0 rfl dJ5_init_3_46 ?_
    refine vv_aload_n (pc := 47) X (kf := 2) (i := 2) rfl 2 rfl dJ5_init_3_47 ?_
    refine vv_putR (pc := 48) (ty9 := (.object "java/lang/Throwable")) (fin := false) X (fun _ z => by cases List.mem_singleton.mp z; exact fl_J5_7_9) (fun z => nomatch z) (fun z => nomatch z) (by decide +kernel) rfl dJ5_init_3_48 (fun h6 => ?_)
    refine vv_iload_n (pc := 51) X (kf := 3) (i := 3) rfl 3 rfl dJ5_init_3_51 ?_
    refine vv_if_ne (pc := 52) (tgt := 60) X dJ5_init_3_52 rfl ?_ ?_
    · exact vv_sub [] (by rfl) (B_J5_init_3_60 X _)
    · refine vv_aload_n (pc := 55) X (kf := 0) (i := 0) rfl 0 rfl dJ5_init_3_55 ?_
      refine vv_null (pc := 56) X dJ5_init_3_56 ?_
      refine vv_putR (pc := 57) (ty9 := (.object "java/util/List")) (fin := false) X (fun _ z => by cases List.mem_singleton.mp z; exact fl_J5_24_9) (fun z => nomatch z) (fun z => nomatch z) (by decide +kernel) rfl dJ5_init_3_57 (fun h7 => ?_)
      exact vv_sub [] (by rfl) (B_J5_init_3_60 X _)
  · refine vv_aload_n (pc := 28) X (kf := 0) (i := 0) rfl 0 rfl dJ5_init_3_28 ?_
    exact vv_none
theorem m_J5_init_3 {l : Launch} (hl : l.stackTraces = false) {G : va_G} (a0 : Nat) (a1 : Option Nat) (a2 : Option Nat) (a3 : Int) (a4 : Int) (h : HP) : ∀ r hf, f_J5_init_3 a0 a1 a2 a3 a4 h = some (r, hf) → Ct l yJ5_init_3 (ws_ yJ5_init_3 cJ5_init_3 5 none) 1 28 G h [.ref a0, va_rf a1, va_rf a2, .int (iI a3), .int (iI a4)] (jV r) hf :=
  zz_ofW hl (by decide +kernel) (lv := [(0, LR (some a0)), (1, LR a1), (2, LR a2), (3, LI a3), (4, LI a4)]) (by simp [lv_args, lvL, lvV, zz_rfc, zz_rfs, zz_ci, zz_cr, zz_cj, zz_cf, zz_cd]) (by simp [lg_sl, zz_rfc, zz_ci, zz_cr, zz_cj, zz_cf, zz_cd]) (fun _ X => A_J5_init_3 X a0 a1 a2 a3 a4 h)
-- J6_init_2 java/lang/Exception.<init>(Ljava/lang/String;Ljava/lang/Throwable;ZZ)V
noncomputable def f_J6_init_2 (a0 : Nat) (a1 : Option Nat) (a2 : Option Nat) (a3 : Int) (a4 : Int) (h : HP) : Option ((Unit) × HP) :=
  hb (f_J5_init_3 a0 a1 a2 a3 a4 h) fun _ h2 =>
  some ((), h2)
theorem A_J6_init_2 {M : hp_M} {G : va_G} {h0 : HP} (X : hp_X M G h0 "java/lang/Exception" "<init>" cJ6_init_2 5 none [] 2 60) (a0 : Nat) (a1 : Option Nat) (a2 : Option Nat) (a3 : Int) (a4 : Int) (h : HP) : vv M G h0 5 (hp_End M G h0) jV h 0 [(0, LR (some a0)), (1, LR a1), (2, LR a2), (3, LI a3), (4, LI a4)] [] (f_J6_init_2 a0 a1 a2 a3 a4 h) := by
  unfold f_J6_init_2
  refine vv_aload_n (pc := 0) X (kf := 0) (i := 0) rfl 0 rfl dJ6_init_2_0 ?_
  refine vv_aload_n (pc := 1) X (kf := 1) (i := 1) rfl 1 rfl dJ6_init_2_1 ?_
  refine vv_aload_n (pc := 2) X (kf := 2) (i := 2) rfl 2 rfl dJ6_init_2_2 ?_
  refine vv_iload_n (pc := 3) X (kf := 3) (i := 3) rfl 3 rfl dJ6_init_2_3 ?_
  refine vv_iload (pc := 4) X 4 rfl dJ6_init_2_4 ?_
  refine vv_callV (pc := 6) (rest := []) (by rfl) (fun r8 k8 e8 => zz_callI X (m_J5_init_3 (hlM X) _ _ _ _ _ _ _ _ e8) q985 q986 q140 q987 rfl nh_J5 rfl (by decide) (by decide) (Nat.le_of_ble_eq_true rfl) dJ6_init_2_6) (fun v1 h2 => ?_)
  exact vv_vreturn X rfl rfl dJ6_init_2_9
theorem m_J6_init_2 {l : Launch} (hl : l.stackTraces = false) {G : va_G} (a0 : Nat) (a1 : Option Nat) (a2 : Option Nat) (a3 : Int) (a4 : Int) (h : HP) : ∀ r hf, f_J6_init_2 a0 a1 a2 a3 a4 h = some (r, hf) → Ct l yJ6_init_2 (ws_ yJ6_init_2 cJ6_init_2 5 none) 2 60 G h [.ref a0, va_rf a1, va_rf a2, .int (iI a3), .int (iI a4)] (jV r) hf :=
  zz_ofW hl (by decide +kernel) (lv := [(0, LR (some a0)), (1, LR a1), (2, LR a2), (3, LI a3), (4, LI a4)]) (by simp [lv_args, lvL, lvV, zz_rfc, zz_rfs, zz_ci, zz_cr, zz_cj, zz_cf, zz_cd]) (by simp [lg_sl, zz_rfc, zz_ci, zz_cr, zz_cj, zz_cf, zz_cd]) (fun _ X => A_J6_init_2 X a0 a1 a2 a3 a4 h)
