/-! STAGE 1c: functions and contracts (printed by gen/mkfuncs.py). -/
set_option maxRecDepth 100000
set_option linter.unusedVariables false
-- J1_newNode java/util/HashMap.newNode(ILjava/lang/Object;Ljava/lang/Object;Ljava/util/HashMap$Node;)Ljava/util/HashMap$Node;
noncomputable def f_J1_newNode (a0 : Nat) (a1 : Int) (a2 : Option Nat) (a3 : Option Nat) (a4 : Option Nat) (h : HP) : Option ((Option Nat) × HP) :=
  hb (nwO h (tgR h (some a0)) 30 [.inl 0, .inr (.inl none), .inr (.inl none), .inr (.inl none)] 4) fun v1 h2 =>
  (v1).bind fun b5 =>
  hb (f_J26_init b5 a1 a2 a3 a4 h2) fun _ h4 =>
  some (v1, h4)
theorem A_J1_newNode {M : hp_M} {G : va_G} {h0 : HP} (X : hp_X M G h0 "java/util/HashMap" "newNode" cJ1_newNode 5 (some (.object "java/util/HashMap$Node")) [] 2 60) (a0 : Nat) (a1 : Int) (a2 : Option Nat) (a3 : Option Nat) (a4 : Option Nat) (h : HP) : vv M G h0 5 (hp_End M G h0) jR h 0 [(0, LR (some a0)), (1, LI a1), (2, LR a2), (3, LR a3), (4, LR a4)] [] (f_J1_newNode a0 a1 a2 a3 a4 h) := by
  unfold f_J1_newNode
  refine vv_new (pc := 0) X tyJ26 rfl in_J26 tyJ26_ok q1616 q1631 q176 ndJ26 (by decide) dJ1_newNode_0 (fun v1 h2 => ?_)
  refine vv_dup (pc := 3) X rfl dJ1_newNode_3 ?_
  refine vv_iload_n (pc := 4) X (kf := 1) (i := 1) rfl 1 rfl dJ1_newNode_4 ?_
  refine vv_aload_n (pc := 5) X (kf := 2) (i := 2) rfl 2 rfl dJ1_newNode_5 ?_
  refine vv_aload_n (pc := 6) X (kf := 3) (i := 3) rfl 3 rfl dJ1_newNode_6 ?_
  refine vv_aload (pc := 7) X 4 rfl dJ1_newNode_7 ?_
  refine vv_bnd (fun b5 e6 => ?_)
  refine vv_callV (pc := 9) (rest := [LR v1]) (by rw [e6]; rfl) (fun r8 k8 e8 => zz_callI X (m_J26_init (hlM X) _ _ _ _ _ _ _ _ e8) q1632 q1633 q176 q1634 rfl nh_J26 rfl (by decide) (by decide) (Nat.le_of_ble_eq_true rfl) dJ1_newNode_9) (fun v3 h4 => ?_)
  exact vv_aretO X rfl rfl dJ1_newNode_12
theorem m_J1_newNode {l : Launch} (hl : l.stackTraces = false) {G : va_G} (a0 : Nat) (a1 : Int) (a2 : Option Nat) (a3 : Option Nat) (a4 : Option Nat) (h : HP) : ∀ r hf, f_J1_newNode a0 a1 a2 a3 a4 h = some (r, hf) → Ct l yJ1_newNode (ws_ yJ1_newNode cJ1_newNode 5 (some (.object "java/util/HashMap$Node"))) 2 60 G h [.ref a0, .int (iI a1), va_rf a2, va_rf a3, va_rf a4] (jR r) hf :=
  zz_ofW hl (by decide +kernel) (lv := [(0, LR (some a0)), (1, LI a1), (2, LR a2), (3, LR a3), (4, LR a4)]) (by simp [lv_args, lvL, lvV, zz_rfc, zz_rfs, zz_ci, zz_cr, zz_cj, zz_cf, zz_cd]) (by simp [lg_sl, zz_rfc, zz_ci, zz_cr, zz_cj, zz_cf, zz_cd]) (fun _ X => A_J1_newNode X a0 a1 a2 a3 a4 h)
-- J1_afterNodeAccess java/util/HashMap.afterNodeAccess(Ljava/util/HashMap$Node;)V
noncomputable def f_J1_afterNodeAccess (a0 : Nat) (a1 : Option Nat) (h : HP) : Option ((Unit) × HP) :=
  some ((), h)
theorem A_J1_afterNodeAccess {M : hp_M} {G : va_G} {h0 : HP} (X : hp_X M G h0 "java/util/HashMap" "afterNodeAccess" cJ1_afterNodeAccess 2 none [] 0 0) (a0 : Nat) (a1 : Option Nat) (h : HP) : vv M G h0 2 (hp_End M G h0) jV h 0 [(0, LR (some a0)), (1, LR a1)] [] (f_J1_afterNodeAccess a0 a1 h) := by
  unfold f_J1_afterNodeAccess
  exact vv_vreturn X rfl rfl dJ1_afterNodeAccess_0
theorem m_J1_afterNodeAccess {l : Launch} (hl : l.stackTraces = false) {G : va_G} (a0 : Nat) (a1 : Option Nat) (h : HP) : ∀ r hf, f_J1_afterNodeAccess a0 a1 h = some (r, hf) → Ct l yJ1_afterNodeAccess (ws_ yJ1_afterNodeAccess cJ1_afterNodeAccess 2 none) 0 0 G h [.ref a0, va_rf a1] (jV r) hf :=
  zz_ofW hl (by decide +kernel) (lv := [(0, LR (some a0)), (1, LR a1)]) (by simp [lv_args, lvL, lvV, zz_rfc, zz_rfs, zz_ci, zz_cr, zz_cj, zz_cf, zz_cd]) (by simp [lg_sl, zz_rfc, zz_ci, zz_cr, zz_cj, zz_cf, zz_cd]) (fun _ X => A_J1_afterNodeAccess X a0 a1 h)
-- J1_afterNodeInsertion java/util/HashMap.afterNodeInsertion(Z)V
noncomputable def f_J1_afterNodeInsertion (a0 : Nat) (a1 : Int) (h : HP) : Option ((Unit) × HP) :=
  some ((), h)
theorem A_J1_afterNodeInsertion {M : hp_M} {G : va_G} {h0 : HP} (X : hp_X M G h0 "java/util/HashMap" "afterNodeInsertion" cJ1_afterNodeInsertion 2 none [] 0 0) (a0 : Nat) (a1 : Int) (h : HP) : vv M G h0 2 (hp_End M G h0) jV h 0 [(0, LR (some a0)), (1, LI a1)] [] (f_J1_afterNodeInsertion a0 a1 h) := by
  unfold f_J1_afterNodeInsertion
  exact vv_vreturn X rfl rfl dJ1_afterNodeInsertion_0
theorem m_J1_afterNodeInsertion {l : Launch} (hl : l.stackTraces = false) {G : va_G} (a0 : Nat) (a1 : Int) (h : HP) : ∀ r hf, f_J1_afterNodeInsertion a0 a1 h = some (r, hf) → Ct l yJ1_afterNodeInsertion (ws_ yJ1_afterNodeInsertion cJ1_afterNodeInsertion 2 none) 0 0 G h [.ref a0, .int (iI a1)] (jV r) hf :=
  zz_ofW hl (by decide +kernel) (lv := [(0, LR (some a0)), (1, LI a1)]) (by simp [lv_args, lvL, lvV, zz_rfc, zz_rfs, zz_ci, zz_cr, zz_cj, zz_cf, zz_cd]) (by simp [lg_sl, zz_rfc, zz_ci, zz_cr, zz_cj, zz_cf, zz_cd]) (fun _ X => A_J1_afterNodeInsertion X a0 a1 h)
-- J1_putVal java/util/HashMap.putVal(ILjava/lang/Object;Ljava/lang/Object;ZZ)Ljava/lang/Object;
noncomputable def b_J1_putVal_212 (r134 : Option Nat → Int → Option Nat → Option Nat → Int → Int → Option Nat → Option Nat → Int → HP → Option ((Option Nat) × HP)) (x0 : Option Nat) (x1 : Int) (x2 : Option Nat) (x3 : Option Nat) (x4 : Int) (x5 : Int) (x6 : Option Nat) (x10 : Option Nat) (x12 : Int) (h : HP) : Option ((Option Nat) × HP) :=
  r134 x0 x1 x2 x3 x4 x5 x6 x10 (x12 + 1) h
theorem B_J1_putVal_212 {M : hp_M} {G : va_G} {h0 : HP} (X : hp_X M G h0 "java/util/HashMap" "putVal" cJ1_putVal 13 (some (.object "java/lang/Object")) [] 3 92) (r134 : Option Nat → Int → Option Nat → Option Nat → Int → Int → Option Nat → Option Nat → Int → HP → Option ((Option Nat) × HP)) (hr134 : ∀ (y0 : Option Nat) (y1 : Int) (y2 : Option Nat) (y3 : Option Nat) (y4 : Int) (y5 : Int) (y6 : Option Nat) (y7 : Option Nat) (y12 : Int) (h : HP), vv M G h0 13 (hp_End M G h0) jR h 134 [(0, LR y0), (1, LI y1), (2, LR y2), (3, LR y3), (4, LI y4), (5, LI y5), (6, LR y6), (7, LR y7), (12, LI y12)] [] (r134 y0 y1 y2 y3 y4 y5 y6 y7 y12 h)) (x0 : Option Nat) (x1 : Int) (x2 : Option Nat) (x3 : Option Nat) (x4 : Int) (x5 : Int) (x6 : Option Nat) (x10 : Option Nat) (x12 : Int) (h : HP) : vv M G h0 13 (hp_End M G h0) jR h 212 [(0, LR x0), (1, LI x1), (2, LR x2), (3, LR x3), (4, LI x4), (5, LI x5), (6, LR x6), (10, LR x10), (12, LI x12)] [] (b_J1_putVal_212 r134 x0 x1 x2 x3 x4 x5 x6 x10 x12 h) := by
  unfold b_J1_putVal_212
  refine vv_aload (pc := 212) X 7 rfl dJ1_putVal_212 ?_
  refine vv_astore (pc := 214) (lv' := [(7, LR x10), (0, LR x0), (1, LI x1), (2, LR x2), (3, LR x3), (4, LI x4), (5, LI x5), (6, LR x6), (10, LR x10), (12, LI x12)]) X (by decide) rfl dJ1_putVal_214 ?_
  refine vv_iinc (pc := 216) (lv' := [(12, LI (x12 + 1)), (7, LR x10), (0, LR x0), (1, LI x1), (2, LR x2), (3, LR x3), (4, LI x4), (5, LI x5), (6, LR x6), (10, LR x10)]) X 9 rfl (by decide) rfl dJ1_putVal_216 ?_
  refine vv_goto (pc := 219) (tgt := 134) X dJ1_putVal_219 rfl ?_
  exact vv_sub [2, 3, 4, 5, 6, 7, 8, 1, 0] (by rfl) (hr134 _ _ _ _ _ _ _ _ _ _)
noncomputable def b_J1_putVal_292 (x0 : Option Nat) (x5 : Int) (h : HP) : Option ((Option Nat) × HP) :=
  (rcv h x0 [23]).bind fun b20 =>
  hb (f_J1_afterNodeInsertion b20 x5 h) fun _ h19 =>
  some (none, h19)
theorem B_J1_putVal_292 {M : hp_M} {G : va_G} {h0 : HP} (X : hp_X M G h0 "java/util/HashMap" "putVal" cJ1_putVal 13 (some (.object "java/lang/Object")) [] 3 92) (x0 : Option Nat) (x5 : Int) (h : HP) : vv M G h0 13 (hp_End M G h0) jR h 292 [(0, LR x0), (5, LI x5)] [] (b_J1_putVal_292 x0 x5 h) := by
  unfold b_J1_putVal_292
  refine vv_aload_n (pc := 292) X (kf := 0) (i := 0) rfl 0 rfl dJ1_putVal_292 ?_
  refine vv_iload (pc := 293) X 1 rfl dJ1_putVal_293 ?_
  refine vv_rcv (fun b20 t9 c9 fs9 e21 g9 k9 => ?_)
  cases List.mem_singleton.mp k9
  refine vv_callV (pc := 295) (rest := []) (by rw [e21]; rfl) (fun r8 k8 e8 => zz_callV X (m_J1_afterNodeInsertion (hlM X) _ _ _ _ _ e8) g9 rfl rfl q1737 q1738 q1739 q136 q1740 nh_J1 rfl (by decide) (by decide) (Nat.le_of_ble_eq_true rfl) dJ1_putVal_295) (fun v18 h19 => ?_)
  refine vv_null (pc := 298) X dJ1_putVal_298 ?_
  exact vv_aretO X rfl rfl dJ1_putVal_299
noncomputable def b_J1_putVal_259 (x0 : Option Nat) (x5 : Int) (h : HP) : Option ((Option Nat) × HP) :=
  (rdI h x0 [23] 5).bind fun v13 =>
  (wrI h x0 [23] 5 (v13 + 1)).bind fun h14 =>
  (rdI h14 x0 [23] 4).bind fun v15 =>
  (wrI h14 x0 [23] 4 (v15 + 1)).bind fun h16 =>
  (rdI h16 x0 [23] 6).bind fun v17 =>
  iLE (v15 + 1) v17
    (b_J1_putVal_292 x0 x5 h16)
    ((rcv h16 x0 [23]).bind fun b24 =>
    hb (f_J1_resize b24 h16) fun v22 h23 =>
    b_J1_putVal_292 x0 x5 h23)
theorem B_J1_putVal_259 {M : hp_M} {G : va_G} {h0 : HP} (X : hp_X M G h0 "java/util/HashMap" "putVal" cJ1_putVal 13 (some (.object "java/lang/Object")) [] 3 92) (x0 : Option Nat) (x5 : Int) (h : HP) : vv M G h0 13 (hp_End M G h0) jR h 259 [(0, LR x0), (5, LI x5)] [] (b_J1_putVal_259 x0 x5 h) := by
  unfold b_J1_putVal_259
  refine vv_aload_n (pc := 259) X (kf := 0) (i := 0) rfl 0 rfl dJ1_putVal_259 ?_
  refine vv_dup (pc := 260) X rfl dJ1_putVal_260 ?_
  refine vv_getI (pc := 261) X (fun _ z => by cases List.mem_singleton.mp z; exact fl_J1_202_23) dJ1_putVal_261 (fun v13 => ?_)
  refine vv_iconst (pc := 264) X dJ1_putVal_264 ?_
  refine vv_iadd (pc := 265) X dJ1_putVal_265 ?_
  refine vv_putI (pc := 266) (fin := false) X (fun _ z => by cases List.mem_singleton.mp z; exact fl_J1_202_23) (fun z => nomatch z) (fun z => nomatch z) dJ1_putVal_266 (fun h14 => ?_)
  refine vv_aload_n (pc := 269) X (kf := 0) (i := 0) rfl 0 rfl dJ1_putVal_269 ?_
  refine vv_dup (pc := 270) X rfl dJ1_putVal_270 ?_
  refine vv_getI (pc := 271) X (fun _ z => by cases List.mem_singleton.mp z; exact fl_J1_156_23) dJ1_putVal_271 (fun v15 => ?_)
  refine vv_iconst (pc := 274) X dJ1_putVal_274 ?_
  refine vv_iadd (pc := 275) X dJ1_putVal_275 ?_
  refine vv_dup_x1 (pc := 276) X rfl rfl dJ1_putVal_276 ?_
  refine vv_putI (pc := 277) (fin := false) X (fun _ z => by cases List.mem_singleton.mp z; exact fl_J1_156_23) (fun z => nomatch z) (fun z => nomatch z) dJ1_putVal_277 (fun h16 => ?_)
  refine vv_aload_n (pc := 280) X (kf := 0) (i := 0) rfl 0 rfl dJ1_putVal_280 ?_
  refine vv_getI (pc := 281) X (fun _ z => by cases List.mem_singleton.mp z; exact fl_J1_88_23) dJ1_putVal_281 (fun v17 => ?_)
  refine vv_icmp_le (pc := 284) (tgt := 292) X dJ1_putVal_284 rfl ?_ ?_
  · exact B_J1_putVal_292 X _ _ _
  · refine vv_aload_n (pc := 287) X (kf := 0) (i := 0) rfl 0 rfl dJ1_putVal_287 ?_
    refine vv_rcv (fun b24 t9 c9 fs9 e25 g9 k9 => ?_)
    cases List.mem_singleton.mp k9
    refine vv_callR (pc := 288) (rest := []) (by rw [e25]; rfl) (fun r8 k8 e8 => zz_callV X (m_J1_resize (hlM X) _ _ _ _ e8) g9 rfl rfl q1609 q1610 q1611 q136 q1612 nh_J1 rfl (by decide) (by decide) (Nat.le_of_ble_eq_true rfl) dJ1_putVal_288) (fun v22 h23 => ?_)
    refine vv_pop (pc := 291) X rfl dJ1_putVal_291 ?_
    exact B_J1_putVal_292 X _ _ _
noncomputable def b_J1_putVal_250 (x0 : Option Nat) (x10 : Option Nat) (x12 : Option Nat) (h : HP) : Option ((Option Nat) × HP) :=
  (rcv h x0 [23]).bind fun b30 =>
  hb (f_J1_afterNodeAccess b30 x10 h) fun _ h29 =>
  some (x12, h29)
theorem B_J1_putVal_250 {M : hp_M} {G : va_G} {h0 : HP} (X : hp_X M G h0 "java/util/HashMap" "putVal" cJ1_putVal 13 (some (.object "java/lang/Object")) [] 3 92) (x0 : Option Nat) (x10 : Option Nat) (x12 : Option Nat) (h : HP) : vv M G h0 13 (hp_End M G h0) jR h 250 [(0, LR x0), (10, LR x10), (12, LR x12)] [] (b_J1_putVal_250 x0 x10 x12 h) := by
  unfold b_J1_putVal_250
  refine vv_aload_n (pc := 250) X (kf := 0) (i := 0) rfl 0 rfl dJ1_putVal_250 ?_
  refine vv_aload (pc := 251) X 1 rfl dJ1_putVal_251 ?_
  refine vv_rcv (fun b30 t9 c9 fs9 e31 g9 k9 => ?_)
  cases List.mem_singleton.mp k9
  refine vv_callV (pc := 253) (rest := []) (by rw [e31]; rfl) (fun r8 k8 e8 => zz_callV X (m_J1_afterNodeAccess (hlM X) _ _ _ _ _ e8) g9 rfl rfl q1733 q1734 q1735 q136 q1736 nh_J1 rfl (by decide) (by decide) (Nat.le_of_ble_eq_true rfl) dJ1_putVal_253) (fun v28 h29 => ?_)
  refine vv_aload (pc := 256) X 2 rfl dJ1_putVal_256 ?_
  exact vv_aretO X rfl rfl dJ1_putVal_258
noncomputable def b_J1_putVal_244 (x0 : Option Nat) (x3 : Option Nat) (x10 : Option Nat) (x12 : Option Nat) (h : HP) : Option ((Option Nat) × HP) :=
  (wrR h x10 [30] 2 x3).bind fun h27 =>
  b_J1_putVal_250 x0 x10 x12 h27
theorem B_J1_putVal_244 {M : hp_M} {G : va_G} {h0 : HP} (X : hp_X M G h0 "java/util/HashMap" "putVal" cJ1_putVal 13 (some (.object "java/lang/Object")) [] 3 92) (x0 : Option Nat) (x3 : Option Nat) (x10 : Option Nat) (x12 : Option Nat) (h : HP) : vv M G h0 13 (hp_End M G h0) jR h 244 [(0, LR x0), (3, LR x3), (10, LR x10), (12, LR x12)] [] (b_J1_putVal_244 x0 x3 x10 x12 h) := by
  unfold b_J1_putVal_244
  refine vv_aload (pc := 244) X 2 rfl dJ1_putVal_244 ?_
  refine vv_aload_n (pc := 246) X (kf := 3) (i := 3) rfl 1 rfl dJ1_putVal_246 ?_
  refine vv_putR (pc := 247) (ty9 := (.object "java/lang/Object")) (fin := false) X (fun _ z => by cases List.mem_singleton.mp z; exact fl_J1_162_30) (fun z => nomatch z) (fun z => nomatch z) (by decide +kernel) rfl dJ1_putVal_247 (fun h27 => ?_)
  exact vv_sub [0, 2, 3] (by rfl) (B_J1_putVal_250 X _ _ _ _)
noncomputable def b_J1_putVal_222 (x0 : Option Nat) (x3 : Option Nat) (x4 : Int) (x5 : Int) (x10 : Option Nat) (h : HP) : Option ((Option Nat) × HP) :=
  rNU x10
    (b_J1_putVal_259 x0 x5 h)
    ((rdR h x10 [30] 2).bind fun v26 =>
    iEQ x4 0
      (b_J1_putVal_244 x0 x3 x10 v26 h)
      (rNU v26
        (b_J1_putVal_244 x0 x3 x10 v26 h)
        (b_J1_putVal_250 x0 x10 v26 h)))
theorem B_J1_putVal_222 {M : hp_M} {G : va_G} {h0 : HP} (X : hp_X M G h0 "java/util/HashMap" "putVal" cJ1_putVal 13 (some (.object "java/lang/Object")) [] 3 92) (x0 : Option Nat) (x3 : Option Nat) (x4 : Int) (x5 : Int) (x10 : Option Nat) (h : HP) : vv M G h0 13 (hp_End M G h0) jR h 222 [(0, LR x0), (3, LR x3), (4, LI x4), (5, LI x5), (10, LR x10)] [] (b_J1_putVal_222 x0 x3 x4 x5 x10 h) := by
  unfold b_J1_putVal_222
  refine vv_aload (pc := 222) X 4 rfl dJ1_putVal_222 ?_
  refine vv_ifnull (pc := 224) (tgt := 259) X dJ1_putVal_224 rfl ?_ ?_
  · exact vv_sub [0, 3] (by rfl) (B_J1_putVal_259 X _ _ _)
  · refine vv_aload (pc := 227) X 4 rfl dJ1_putVal_227 ?_
    refine vv_getR (pc := 229) X (fun _ z => by cases List.mem_singleton.mp z; exact fl_J1_162_30) dJ1_putVal_229 (fun v26 => ?_)
    refine vv_astore (pc := 232) (lv' := [(12, LR v26), (0, LR x0), (3, LR x3), (4, LI x4), (5, LI x5), (10, LR x10)]) X (by decide) rfl dJ1_putVal_232 ?_
    refine vv_iload (pc := 234) X 3 rfl dJ1_putVal_234 ?_
    refine vv_if_eq (pc := 236) (tgt := 244) X dJ1_putVal_236 rfl ?_ ?_
    · exact vv_sub [1, 2, 5, 0] (by rfl) (B_J1_putVal_244 X _ _ _ _ _)
    · refine vv_aload (pc := 239) X 0 rfl dJ1_putVal_239 ?_
      refine vv_ifnonnull (pc := 241) (tgt := 250) X dJ1_putVal_241 rfl ?_ ?_
      · exact vv_sub [1, 5, 0] (by rfl) (B_J1_putVal_250 X _ _ _ _)
      · exact vv_sub [1, 2, 5, 0] (by rfl) (B_J1_putVal_244 X _ _ _ _ _)
noncomputable def c_J1_putVal_134 (r134 : Option Nat → Int → Option Nat → Option Nat → Int → Int → Option Nat → Option Nat → Int → HP → Option ((Option Nat) × HP)) (x0 : Option Nat) (x1 : Int) (x2 : Option Nat) (x3 : Option Nat) (x4 : Int) (x5 : Int) (x6 : Option Nat) (x7 : Option Nat) (x12 : Int) (h : HP) : Option ((Option Nat) × HP) :=
  (rdR h x7 [30] 3).bind fun v10 =>
  rNU v10
    ((rcv h x0 [23]).bind fun b38 =>
    hb (f_J1_newNode b38 x1 x2 x3 none h) fun v36 h37 =>
    (wrR h37 x7 [30] 3 v36).bind fun h40 =>
    iLT x12 7
      (b_J1_putVal_222 x0 x3 x4 x5 v10 h40)
      (none))
    ((rdI h v10 [30] 0).bind fun v11 =>
    iEQ v11 x1
      ((rdR h v10 [30] 1).bind fun v12 =>
      rEQ v12 x2
        (b_J1_putVal_222 x0 x3 x4 x5 v10 h)
        (rNU x2
          (b_J1_putVal_212 r134 x0 x1 x2 x3 x4 x5 x6 v10 x12 h)
          ((rcv h x2 [10]).bind fun b34 =>
          hb (f_X13_equals b34 v12 h) fun v32 h33 =>
          iEQ v32 0
            (b_J1_putVal_212 r134 x0 x1 x2 x3 x4 x5 x6 v10 x12 h33)
            (b_J1_putVal_222 x0 x3 x4 x5 v10 h33))))
      (b_J1_putVal_212 r134 x0 x1 x2 x3 x4 x5 x6 v10 x12 h))
noncomputable def b_J1_putVal_134 : Option Nat → Int → Option Nat → Option Nat → Int → Int → Option Nat → Option Nat → Int → HP → Option ((Option Nat) × HP) := fx (fun _ _ _ _ _ _ _ _ _ _ => none) (c_J1_putVal_134) FU
theorem C_J1_putVal_134 {M : hp_M} {G : va_G} {h0 : HP} (X : hp_X M G h0 "java/util/HashMap" "putVal" cJ1_putVal 13 (some (.object "java/lang/Object")) [] 3 92) (r134 : Option Nat → Int → Option Nat → Option Nat → Int → Int → Option Nat → Option Nat → Int → HP → Option ((Option Nat) × HP)) (hr134 : ∀ (y0 : Option Nat) (y1 : Int) (y2 : Option Nat) (y3 : Option Nat) (y4 : Int) (y5 : Int) (y6 : Option Nat) (y7 : Option Nat) (y12 : Int) (h : HP), vv M G h0 13 (hp_End M G h0) jR h 134 [(0, LR y0), (1, LI y1), (2, LR y2), (3, LR y3), (4, LI y4), (5, LI y5), (6, LR y6), (7, LR y7), (12, LI y12)] [] (r134 y0 y1 y2 y3 y4 y5 y6 y7 y12 h)) (x0 : Option Nat) (x1 : Int) (x2 : Option Nat) (x3 : Option Nat) (x4 : Int) (x5 : Int) (x6 : Option Nat) (x7 : Option Nat) (x12 : Int) (h : HP) : vv M G h0 13 (hp_End M G h0) jR h 134 [(0, LR x0), (1, LI x1), (2, LR x2), (3, LR x3), (4, LI x4), (5, LI x5), (6, LR x6), (7, LR x7), (12, LI x12)] [] (c_J1_putVal_134 r134 x0 x1 x2 x3 x4 x5 x6 x7 x12 h) := by
  unfold c_J1_putVal_134
  refine vv_aload (pc := 134) X 7 rfl dJ1_putVal_134 ?_
  refine vv_getR (pc := 136) X (fun _ z => by cases List.mem_singleton.mp z; exact fl_J1_177_30) dJ1_putVal_136 (fun v10 => ?_)
  refine vv_dup (pc := 139) X rfl dJ1_putVal_139 ?_
  refine vv_astore (pc := 140) (lv' := [(10, LR v10), (0, LR x0), (1, LI x1), (2, LR x2), (3, LR x3), (4, LI x4), (5, LI x5), (6, LR x6), (7, LR x7), (12, LI x12)]) X (by decide) rfl dJ1_putVal_140 ?_
  refine vv_ifnonnull (pc := 142) (tgt := 175) X dJ1_putVal_142 rfl ?_ ?_
  · refine vv_aload (pc := 175) X 0 rfl dJ1_putVal_175 ?_
    refine vv_getI (pc := 177) X (fun _ z => by cases List.mem_singleton.mp z; exact fl_J1_168_30) dJ1_putVal_177 (fun v11 => ?_)
    refine vv_iload_n (pc := 180) X (kf := 1) (i := 1) rfl 2 rfl dJ1_putVal_180 ?_
    refine vv_icmp_ne (pc := 181) (tgt := 212) X dJ1_putVal_181 rfl ?_ ?_
    · exact vv_sub [1, 2, 3, 4, 5, 6, 7, 0, 9] (by rfl) (B_J1_putVal_212 X r134 hr134 _ _ _ _ _ _ _ _ _ _)
    · refine vv_aload (pc := 184) X 0 rfl dJ1_putVal_184 ?_
      refine vv_getR (pc := 186) X (fun _ z => by cases List.mem_singleton.mp z; exact fl_J1_170_30) dJ1_putVal_186 (fun v12 => ?_)
      refine vv_dup (pc := 189) X rfl dJ1_putVal_189 ?_
      refine vv_astore (pc := 190) (lv' := [(11, LR v12), (10, LR v10), (0, LR x0), (1, LI x1), (2, LR x2), (3, LR x3), (4, LI x4), (5, LI x5), (6, LR x6), (7, LR x7), (12, LI x12)]) X (by decide) rfl dJ1_putVal_190 ?_
      refine vv_aload_n (pc := 192) X (kf := 2) (i := 2) rfl 4 rfl dJ1_putVal_192 ?_
      refine vv_acmp_eq (pc := 193) (tgt := 222) X dJ1_putVal_193 rfl ?_ ?_
      · exact vv_sub [2, 5, 6, 7, 1] (by rfl) (B_J1_putVal_222 X _ _ _ _ _ _)
      · refine vv_aload_n (pc := 196) X (kf := 2) (i := 2) rfl 4 rfl dJ1_putVal_196 ?_
        refine vv_ifnull (pc := 197) (tgt := 212) X dJ1_putVal_197 rfl ?_ ?_
        · exact vv_sub [2, 3, 4, 5, 6, 7, 8, 1, 10] (by rfl) (B_J1_putVal_212 X r134 hr134 _ _ _ _ _ _ _ _ _ _)
        · refine vv_aload_n (pc := 200) X (kf := 2) (i := 2) rfl 4 rfl dJ1_putVal_200 ?_
          refine vv_aload (pc := 201) X 0 rfl dJ1_putVal_201 ?_
          refine vv_rcv (fun b34 t9 c9 fs9 e35 g9 k9 => ?_)
          cases List.mem_singleton.mp k9
          refine vv_callI (pc := 203) (rest := []) (by rw [e35]; rfl) (fun r8 k8 e8 => zz_callU X (m_X13_equals (hlM X) _ _ _ _ _ e8) g9 rfl q1224 q1226 (va_Decl.of (X.1.2.2.2.2 _ q1225) (X.1.2.2.2.2 _ q1273)) (by decide) q1234 q1233 q170 q1235 rfl (by decide) (by decide) (Nat.le_of_ble_eq_true rfl) dJ1_putVal_203) (fun v32 h33 => ?_)
          refine vv_if_eq (pc := 206) (tgt := 212) X dJ1_putVal_206 rfl ?_ ?_
          · exact vv_sub [2, 3, 4, 5, 6, 7, 8, 1, 10] (by rfl) (B_J1_putVal_212 X r134 hr134 _ _ _ _ _ _ _ _ _ _)
          · refine vv_goto (pc := 209) (tgt := 222) X dJ1_putVal_209 rfl ?_
            exact vv_sub [2, 5, 6, 7, 1] (by rfl) (B_J1_putVal_222 X _ _ _ _ _ _)
  · refine vv_aload (pc := 145) X 8 rfl dJ1_putVal_145 ?_
    refine vv_aload_n (pc := 147) X (kf := 0) (i := 0) rfl 1 rfl dJ1_putVal_147 ?_
    refine vv_iload_n (pc := 148) X (kf := 1) (i := 1) rfl 2 rfl dJ1_putVal_148 ?_
    refine vv_aload_n (pc := 149) X (kf := 2) (i := 2) rfl 3 rfl dJ1_putVal_149 ?_
    refine vv_aload_n (pc := 150) X (kf := 3) (i := 3) rfl 4 rfl dJ1_putVal_150 ?_
    refine vv_null (pc := 151) X dJ1_putVal_151 ?_
    refine vv_rcv (fun b38 t9 c9 fs9 e39 g9 k9 => ?_)
    cases List.mem_singleton.mp k9
    refine vv_callR (pc := 152) (rest := [LR x7]) (by rw [e39]; rfl) (fun r8 k8 e8 => zz_callV X (m_J1_newNode (hlM X) _ _ _ _ _ _ _ _ e8) g9 rfl rfl q1679 q1680 q1681 q136 q1682 nh_J1 rfl (by decide) (by decide) (Nat.le_of_ble_eq_true rfl) dJ1_putVal_152) (fun v36 h37 => ?_)
    refine vv_putR (pc := 155) (ty9 := (.object "java/util/HashMap$Node")) (fin := false) X (fun _ z => by cases List.mem_singleton.mp z; exact fl_J1_177_30) (fun z => nomatch z) (fun z => nomatch z) (by decide +kernel) rfl dJ1_putVal_155 (fun h40 => ?_)
    refine vv_iload (pc := 158) X 9 rfl dJ1_putVal_158 ?_
    refine vv_bipush (pc := 160) X (by decide) dJ1_putVal_160 ?_
    refine vv_icmp_lt (pc := 162) (tgt := 222) X dJ1_putVal_162 rfl ?_ ?_
    · exact vv_sub [1, 4, 5, 6, 0] (by rfl) (B_J1_putVal_222 X _ _ _ _ _ _)
    · refine vv_aload_n (pc := 165) X (kf := 0) (i := 0) rfl 1 rfl dJ1_putVal_165 ?_
      refine vv_aload (pc := 166) X 7 rfl dJ1_putVal_166 ?_
      refine vv_iload_n (pc := 168) X (kf := 1) (i := 1) rfl 2 rfl dJ1_putVal_168 ?_
      exact vv_none
theorem B_J1_putVal_134 {M : hp_M} {G : va_G} {h0 : HP} (X : hp_X M G h0 "java/util/HashMap" "putVal" cJ1_putVal 13 (some (.object "java/lang/Object")) [] 3 92) : ∀ (x0 : Option Nat) (x1 : Int) (x2 : Option Nat) (x3 : Option Nat) (x4 : Int) (x5 : Int) (x6 : Option Nat) (x7 : Option Nat) (x12 : Int) (h : HP), vv M G h0 13 (hp_End M G h0) jR h 134 [(0, LR x0), (1, LI x1), (2, LR x2), (3, LR x3), (4, LI x4), (5, LI x5), (6, LR x6), (7, LR x7), (12, LI x12)] [] (b_J1_putVal_134 x0 x1 x2 x3 x4 x5 x6 x7 x12 h) := by
  unfold b_J1_putVal_134
  generalize FU = n
  induction n with
  | zero => intro x0 x1 x2 x3 x4 x5 x6 x7 x12 h; exact vv_none
  | succ n ih => exact C_J1_putVal_134 X _ ih
noncomputable def b_J1_putVal_104 (x0 : Option Nat) (x1 : Int) (x2 : Option Nat) (x3 : Option Nat) (x4 : Int) (x5 : Int) (x6 : Option Nat) (x7 : Option Nat) (h : HP) : Option ((Option Nat) × HP) :=
  (ins h x7 [] [30]).bind fun v9 =>
  iEQ v9 0
    (b_J1_putVal_134 x0 x1 x2 x3 x4 x5 x6 x7 0 h)
    ((chk h x7 []).bind fun _ =>
    none)
theorem B_J1_putVal_104 {M : hp_M} {G : va_G} {h0 : HP} (X : hp_X M G h0 "java/util/HashMap" "putVal" cJ1_putVal 13 (some (.object "java/lang/Object")) [] 3 92) (x0 : Option Nat) (x1 : Int) (x2 : Option Nat) (x3 : Option Nat) (x4 : Int) (x5 : Int) (x6 : Option Nat) (x7 : Option Nat) (h : HP) : vv M G h0 13 (hp_End M G h0) jR h 104 [(0, LR x0), (1, LI x1), (2, LR x2), (3, LR x3), (4, LI x4), (5, LI x5), (6, LR x6), (7, LR x7)] [] (b_J1_putVal_104 x0 x1 x2 x3 x4 x5 x6 x7 h) := by
  unfold b_J1_putVal_104
  refine vv_aload (pc := 104) X 7 rfl dJ1_putVal_104 ?_
  refine vv_instanceof (pc := 106) X ⟨q1274, (fun _ z => nomatch z)⟩ (fun _ z => by cases List.mem_singleton.mp z; exact ⟨_, rfl, List.mem_of_getElem? (i := 3) rfl⟩) dJ1_putVal_106 (fun v9 => ?_)
  refine vv_if_eq (pc := 109) (tgt := 131) X dJ1_putVal_109 rfl ?_ ?_
  · refine vv_iconst (pc := 131) X dJ1_putVal_131 ?_
    refine vv_istore (pc := 132) (lv' := [(12, LI 0), (0, LR x0), (1, LI x1), (2, LR x2), (3, LR x3), (4, LI x4), (5, LI x5), (6, LR x6), (7, LR x7)]) X (by decide) rfl dJ1_putVal_132 ?_
    exact vv_sub [1, 2, 3, 4, 5, 6, 7, 8, 0] (by rfl) (B_J1_putVal_134 X _ _ _ _ _ _ _ _ _ _)
  · refine vv_aload (pc := 112) X 7 rfl dJ1_putVal_112 ?_
    refine vv_checkcast (pc := 114) X ⟨q1274, (fun _ z => nomatch z)⟩ dJ1_putVal_114 ?_
    refine vv_aload_n (pc := 117) X (kf := 0) (i := 0) rfl 0 rfl dJ1_putVal_117 ?_
    refine vv_aload (pc := 118) X 6 rfl dJ1_putVal_118 ?_
    refine vv_iload_n (pc := 120) X (kf := 1) (i := 1) rfl 1 rfl dJ1_putVal_120 ?_
    refine vv_aload_n (pc := 121) X (kf := 2) (i := 2) rfl 2 rfl dJ1_putVal_121 ?_
    refine vv_aload_n (pc := 122) X (kf := 3) (i := 3) rfl 3 rfl dJ1_putVal_122 ?_
    exact vv_none
noncomputable def b_J1_putVal_97 (x0 : Option Nat) (x3 : Option Nat) (x4 : Int) (x5 : Int) (x7 : Option Nat) (h : HP) : Option ((Option Nat) × HP) :=
  b_J1_putVal_222 x0 x3 x4 x5 x7 h
theorem B_J1_putVal_97 {M : hp_M} {G : va_G} {h0 : HP} (X : hp_X M G h0 "java/util/HashMap" "putVal" cJ1_putVal 13 (some (.object "java/lang/Object")) [] 3 92) (x0 : Option Nat) (x3 : Option Nat) (x4 : Int) (x5 : Int) (x7 : Option Nat) (h : HP) : vv M G h0 13 (hp_End M G h0) jR h 97 [(0, LR x0), (3, LR x3), (4, LI x4), (5, LI x5), (7, LR x7)] [] (b_J1_putVal_97 x0 x3 x4 x5 x7 h) := by
  unfold b_J1_putVal_97
  refine vv_aload (pc := 97) X 4 rfl dJ1_putVal_97 ?_
  refine vv_astore (pc := 99) (lv' := [(10, LR x7), (0, LR x0), (3, LR x3), (4, LI x4), (5, LI x5), (7, LR x7)]) X (by decide) rfl dJ1_putVal_99 ?_
  refine vv_goto (pc := 101) (tgt := 222) X dJ1_putVal_101 rfl ?_
  exact vv_sub [1, 2, 3, 4, 0] (by rfl) (B_J1_putVal_222 X _ _ _ _ _ _)
noncomputable def b_J1_putVal_29 (x0 : Option Nat) (x1 : Int) (x2 : Option Nat) (x3 : Option Nat) (x4 : Int) (x5 : Int) (x6 : Option Nat) (x8 : Int) (h : HP) : Option ((Option Nat) × HP) :=
  (aldR h "java/util/HashMap$Node" x6 (iAnd (x8 - 1) x1)).bind fun v7 =>
  rNU v7
    ((rcv h x0 [23]).bind fun b48 =>
    hb (f_J1_newNode b48 x1 x2 x3 none h) fun v46 h47 =>
    (astR h47 "java/util/HashMap$Node" [30] x6 (iAnd (x8 - 1) x1) v46).bind fun h50 =>
    b_J1_putVal_259 x0 x5 h50)
    ((rdI h v7 [30] 0).bind fun v8 =>
    iEQ v8 x1
      ((rdR h v7 [30] 1).bind fun v41 =>
      rEQ v41 x2
        (b_J1_putVal_97 x0 x3 x4 x5 v7 h)
        (rNU x2
          (b_J1_putVal_104 x0 x1 x2 x3 x4 x5 x6 v7 h)
          ((rcv h x2 [10]).bind fun b44 =>
          hb (f_X13_equals b44 v41 h) fun v42 h43 =>
          iEQ v42 0
            (b_J1_putVal_104 x0 x1 x2 x3 x4 x5 x6 v7 h43)
            (b_J1_putVal_97 x0 x3 x4 x5 v7 h43))))
      (b_J1_putVal_104 x0 x1 x2 x3 x4 x5 x6 v7 h))
theorem B_J1_putVal_29 {M : hp_M} {G : va_G} {h0 : HP} (X : hp_X M G h0 "java/util/HashMap" "putVal" cJ1_putVal 13 (some (.object "java/lang/Object")) [] 3 92) (x0 : Option Nat) (x1 : Int) (x2 : Option Nat) (x3 : Option Nat) (x4 : Int) (x5 : Int) (x6 : Option Nat) (x8 : Int) (h : HP) : vv M G h0 13 (hp_End M G h0) jR h 29 [(0, LR x0), (1, LI x1), (2, LR x2), (3, LR x3), (4, LI x4), (5, LI x5), (6, LR x6), (8, LI x8)] [] (b_J1_putVal_29 x0 x1 x2 x3 x4 x5 x6 x8 h) := by
  unfold b_J1_putVal_29
  refine vv_aload (pc := 29) X 6 rfl dJ1_putVal_29 ?_
  refine vv_iload (pc := 31) X 7 rfl dJ1_putVal_31 ?_
  refine vv_iconst (pc := 33) X dJ1_putVal_33 ?_
  refine vv_isub (pc := 34) X dJ1_putVal_34 ?_
  refine vv_iload_n (pc := 35) X (kf := 1) (i := 1) rfl 1 rfl dJ1_putVal_35 ?_
  refine vv_iand (pc := 36) X dJ1_putVal_36 ?_
  refine vv_dup (pc := 37) X rfl dJ1_putVal_37 ?_
  refine vv_istore (pc := 38) (lv' := [(9, LI (iAnd (x8 - 1) x1)), (0, LR x0), (1, LI x1), (2, LR x2), (3, LR x3), (4, LI x4), (5, LI x5), (6, LR x6), (8, LI x8)]) X (by decide) rfl dJ1_putVal_38 ?_
  refine vv_aaload (pc := 40) X dJ1_putVal_40 (fun v7 => ?_)
  refine vv_dup (pc := 41) X rfl dJ1_putVal_41 ?_
  refine vv_astore (pc := 42) (lv' := [(7, LR v7), (9, LI (iAnd (x8 - 1) x1)), (0, LR x0), (1, LI x1), (2, LR x2), (3, LR x3), (4, LI x4), (5, LI x5), (6, LR x6), (8, LI x8)]) X (by decide) rfl dJ1_putVal_42 ?_
  refine vv_ifnonnull (pc := 44) (tgt := 63) X dJ1_putVal_44 rfl ?_ ?_
  · refine vv_aload (pc := 63) X 0 rfl dJ1_putVal_63 ?_
    refine vv_getI (pc := 65) X (fun _ z => by cases List.mem_singleton.mp z; exact fl_J1_168_30) dJ1_putVal_65 (fun v8 => ?_)
    refine vv_iload_n (pc := 68) X (kf := 1) (i := 1) rfl 3 rfl dJ1_putVal_68 ?_
    refine vv_icmp_ne (pc := 69) (tgt := 104) X dJ1_putVal_69 rfl ?_ ?_
    · exact vv_sub [2, 3, 4, 5, 6, 7, 8, 0] (by rfl) (B_J1_putVal_104 X _ _ _ _ _ _ _ _ _)
    · refine vv_aload (pc := 72) X 0 rfl dJ1_putVal_72 ?_
      refine vv_getR (pc := 74) X (fun _ z => by cases List.mem_singleton.mp z; exact fl_J1_170_30) dJ1_putVal_74 (fun v41 => ?_)
      refine vv_dup (pc := 77) X rfl dJ1_putVal_77 ?_
      refine vv_astore (pc := 78) (lv' := [(11, LR v41), (7, LR v7), (9, LI (iAnd (x8 - 1) x1)), (0, LR x0), (1, LI x1), (2, LR x2), (3, LR x3), (4, LI x4), (5, LI x5), (6, LR x6), (8, LI x8)]) X (by decide) rfl dJ1_putVal_78 ?_
      refine vv_aload_n (pc := 80) X (kf := 2) (i := 2) rfl 5 rfl dJ1_putVal_80 ?_
      refine vv_acmp_eq (pc := 81) (tgt := 97) X dJ1_putVal_81 rfl ?_ ?_
      · exact vv_sub [3, 6, 7, 8, 1] (by rfl) (B_J1_putVal_97 X _ _ _ _ _ _)
      · refine vv_aload_n (pc := 84) X (kf := 2) (i := 2) rfl 5 rfl dJ1_putVal_84 ?_
        refine vv_ifnull (pc := 85) (tgt := 104) X dJ1_putVal_85 rfl ?_ ?_
        · exact vv_sub [3, 4, 5, 6, 7, 8, 9, 1] (by rfl) (B_J1_putVal_104 X _ _ _ _ _ _ _ _ _)
        · refine vv_aload_n (pc := 88) X (kf := 2) (i := 2) rfl 5 rfl dJ1_putVal_88 ?_
          refine vv_aload (pc := 89) X 0 rfl dJ1_putVal_89 ?_
          refine vv_rcv (fun b44 t9 c9 fs9 e45 g9 k9 => ?_)
          cases List.mem_singleton.mp k9
          refine vv_callI (pc := 91) (rest := []) (by rw [e45]; rfl) (fun r8 k8 e8 => zz_callU X (m_X13_equals (hlM X) _ _ _ _ _ e8) g9 rfl q1224 q1226 (va_Decl.of (X.1.2.2.2.2 _ q1225) (X.1.2.2.2.2 _ q1273)) (by decide) q1234 q1233 q170 q1235 rfl (by decide) (by decide) (Nat.le_of_ble_eq_true rfl) dJ1_putVal_91) (fun v42 h43 => ?_)
          refine vv_if_eq (pc := 94) (tgt := 104) X dJ1_putVal_94 rfl ?_ ?_
          · exact vv_sub [3, 4, 5, 6, 7, 8, 9, 1] (by rfl) (B_J1_putVal_104 X _ _ _ _ _ _ _ _ _)
          · exact vv_sub [3, 6, 7, 8, 1] (by rfl) (B_J1_putVal_97 X _ _ _ _ _ _)
  · refine vv_aload (pc := 47) X 8 rfl dJ1_putVal_47 ?_
    refine vv_iload (pc := 49) X 1 rfl dJ1_putVal_49 ?_
    refine vv_aload_n (pc := 51) X (kf := 0) (i := 0) rfl 2 rfl dJ1_putVal_51 ?_
    refine vv_iload_n (pc := 52) X (kf := 1) (i := 1) rfl 3 rfl dJ1_putVal_52 ?_
    refine vv_aload_n (pc := 53) X (kf := 2) (i := 2) rfl 4 rfl dJ1_putVal_53 ?_
    refine vv_aload_n (pc := 54) X (kf := 3) (i := 3) rfl 5 rfl dJ1_putVal_54 ?_
    refine vv_null (pc := 55) X dJ1_putVal_55 ?_
    refine vv_rcv (fun b48 t9 c9 fs9 e49 g9 k9 => ?_)
    cases List.mem_singleton.mp k9
    refine vv_callR (pc := 56) (rest := [LI (iAnd (x8 - 1) x1), LR x6]) (by rw [e49]; rfl) (fun r8 k8 e8 => zz_callV X (m_J1_newNode (hlM X) _ _ _ _ _ _ _ _ e8) g9 rfl rfl q1679 q1680 q1681 q136 q1682 nh_J1 rfl (by decide) (by decide) (Nat.le_of_ble_eq_true rfl) dJ1_putVal_56) (fun v46 h47 => ?_)
    refine vv_aastore (pc := 59) X (fun _ z => by cases List.mem_singleton.mp z; exact ca_java_util_HashMap_Node_30) dJ1_putVal_59 (fun h50 => ?_)
    refine vv_goto (pc := 60) (tgt := 259) X dJ1_putVal_60 rfl ?_
    exact vv_sub [2, 7] (by rfl) (B_J1_putVal_259 X _ _ _)
noncomputable def b_J1_putVal_19 (x0 : Option Nat) (x1 : Int) (x2 : Option Nat) (x3 : Option Nat) (x4 : Int) (x5 : Int) (h : HP) : Option ((Option Nat) × HP) :=
  (rcv h x0 [23]).bind fun b4 =>
  hb (f_J1_resize b4 h) fun v2 h3 =>
  (alen h3 v2).bind fun v6 =>
  b_J1_putVal_29 x0 x1 x2 x3 x4 x5 v2 v6 h3
theorem B_J1_putVal_19 {M : hp_M} {G : va_G} {h0 : HP} (X : hp_X M G h0 "java/util/HashMap" "putVal" cJ1_putVal 13 (some (.object "java/lang/Object")) [] 3 92) (x0 : Option Nat) (x1 : Int) (x2 : Option Nat) (x3 : Option Nat) (x4 : Int) (x5 : Int) (h : HP) : vv M G h0 13 (hp_End M G h0) jR h 19 [(0, LR x0), (1, LI x1), (2, LR x2), (3, LR x3), (4, LI x4), (5, LI x5)] [] (b_J1_putVal_19 x0 x1 x2 x3 x4 x5 h) := by
  unfold b_J1_putVal_19
  refine vv_aload_n (pc := 19) X (kf := 0) (i := 0) rfl 0 rfl dJ1_putVal_19 ?_
  refine vv_rcv (fun b4 t9 c9 fs9 e5 g9 k9 => ?_)
  cases List.mem_singleton.mp k9
  refine vv_callR (pc := 20) (rest := []) (by rw [e5]; rfl) (fun r8 k8 e8 => zz_callV X (m_J1_resize (hlM X) _ _ _ _ e8) g9 rfl rfl q1609 q1610 q1611 q136 q1612 nh_J1 rfl (by decide) (by decide) (Nat.le_of_ble_eq_true rfl) dJ1_putVal_20) (fun v2 h3 => ?_)
  refine vv_dup (pc := 23) X rfl dJ1_putVal_23 ?_
  refine vv_astore (pc := 24) (lv' := [(6, LR v2), (0, LR x0), (1, LI x1), (2, LR x2), (3, LR x3), (4, LI x4), (5, LI x5)]) X (by decide) rfl dJ1_putVal_24 ?_
  refine vv_alen (pc := 26) X dJ1_putVal_26 (fun v6 => ?_)
  refine vv_istore (pc := 27) (lv' := [(8, LI v6), (6, LR v2), (0, LR x0), (1, LI x1), (2, LR x2), (3, LR x3), (4, LI x4), (5, LI x5)]) X (by decide) rfl dJ1_putVal_27 ?_
  exact vv_sub [2, 3, 4, 5, 6, 7, 1, 0] (by rfl) (B_J1_putVal_29 X _ _ _ _ _ _ _ _ _)
noncomputable def f_J1_putVal (a0 : Nat) (a1 : Int) (a2 : Option Nat) (a3 : Option Nat) (a4 : Int) (a5 : Int) (h : HP) : Option ((Option Nat) × HP) :=
  (rdR h (some a0) [23] 2).bind fun v1 =>
  rNU v1
    (b_J1_putVal_19 (some a0) a1 a2 a3 a4 a5 h)
    ((alen h v1).bind fun v51 =>
    iEQ v51 0
      (b_J1_putVal_19 (some a0) a1 a2 a3 a4 a5 h)
      (b_J1_putVal_29 (some a0) a1 a2 a3 a4 a5 v1 v51 h))
theorem A_J1_putVal {M : hp_M} {G : va_G} {h0 : HP} (X : hp_X M G h0 "java/util/HashMap" "putVal" cJ1_putVal 13 (some (.object "java/lang/Object")) [] 3 92) (a0 : Nat) (a1 : Int) (a2 : Option Nat) (a3 : Option Nat) (a4 : Int) (a5 : Int) (h : HP) : vv M G h0 13 (hp_End M G h0) jR h 0 [(0, LR (some a0)), (1, LI a1), (2, LR a2), (3, LR a3), (4, LI a4), (5, LI a5)] [] (f_J1_putVal a0 a1 a2 a3 a4 a5 h) := by
  unfold f_J1_putVal
  refine vv_aload_n (pc := 0) X (kf := 0) (i := 0) rfl 0 rfl dJ1_putVal_0 ?_
  refine vv_getR (pc := 1) X (fun _ z => by cases List.mem_singleton.mp z; exact fl_J1_105_23) dJ1_putVal_1 (fun v1 => ?_)
  refine vv_dup (pc := 4) X rfl dJ1_putVal_4 ?_
  refine vv_astore (pc := 5) (lv' := [(6, LR v1), (0, LR (some a0)), (1, LI a1), (2, LR a2), (3, LR a3), (4, LI a4), (5, LI a5)]) X (by decide) rfl dJ1_putVal_5 ?_
  refine vv_ifnull (pc := 7) (tgt := 19) X dJ1_putVal_7 rfl ?_ ?_
  · exact vv_sub [1, 2, 3, 4, 5, 6] (by rfl) (B_J1_putVal_19 X _ _ _ _ _ _ _)
  · refine vv_aload (pc := 10) X 0 rfl dJ1_putVal_10 ?_
    refine vv_alen (pc := 12) X dJ1_putVal_12 (fun v51 => ?_)
    refine vv_dup (pc := 13) X rfl dJ1_putVal_13 ?_
    refine vv_istore (pc := 14) (lv' := [(8, LI v51), (6, LR v1), (0, LR (some a0)), (1, LI a1), (2, LR a2), (3, LR a3), (4, LI a4), (5, LI a5)]) X (by decide) rfl dJ1_putVal_14 ?_
    refine vv_if_ne (pc := 16) (tgt := 29) X dJ1_putVal_16 rfl ?_ ?_
    · exact vv_sub [2, 3, 4, 5, 6, 7, 1, 0] (by rfl) (B_J1_putVal_29 X _ _ _ _ _ _ _ _ _)
    · exact vv_sub [2, 3, 4, 5, 6, 7] (by rfl) (B_J1_putVal_19 X _ _ _ _ _ _ _)
theorem m_J1_putVal {l : Launch} (hl : l.stackTraces = false) {G : va_G} (a0 : Nat) (a1 : Int) (a2 : Option Nat) (a3 : Option Nat) (a4 : Int) (a5 : Int) (h : HP) : ∀ r hf, f_J1_putVal a0 a1 a2 a3 a4 a5 h = some (r, hf) → Ct l yJ1_putVal (ws_ yJ1_putVal cJ1_putVal 13 (some (.object "java/lang/Object"))) 3 92 G h [.ref a0, .int (iI a1), va_rf a2, va_rf a3, .int (iI a4), .int (iI a5)] (jR r) hf :=
  zz_ofW hl (by decide +kernel) (lv := [(0, LR (some a0)), (1, LI a1), (2, LR a2), (3, LR a3), (4, LI a4), (5, LI a5)]) (by simp [lv_args, lvL, lvV, zz_rfc, zz_rfs, zz_ci, zz_cr, zz_cj, zz_cf, zz_cd]) (by simp [lg_sl, zz_rfc, zz_ci, zz_cr, zz_cj, zz_cf, zz_cd]) (fun _ X => A_J1_putVal X a0 a1 a2 a3 a4 a5 h)
-- J1_put java/util/HashMap.put(Ljava/lang/Object;Ljava/lang/Object;)Ljava/lang/Object;
noncomputable def f_J1_put (a0 : Nat) (a1 : Option Nat) (a2 : Option Nat) (h : HP) : Option ((Option Nat) × HP) :=
  hb (f_J1_hash a1 h) fun v1 h2 =>
  (rcv h2 (some a0) [23]).bind fun b5 =>
  hb (f_J1_putVal b5 v1 a1 a2 0 1 h2) fun v3 h4 =>
  some (v3, h4)
theorem A_J1_put {M : hp_M} {G : va_G} {h0 : HP} (X : hp_X M G h0 "java/util/HashMap" "put" cJ1_put 3 (some (.object "java/lang/Object")) [] 6 176) (a0 : Nat) (a1 : Option Nat) (a2 : Option Nat) (h : HP) : vv M G h0 3 (hp_End M G h0) jR h 0 [(0, LR (some a0)), (1, LR a1), (2, LR a2)] [] (f_J1_put a0 a1 a2 h) := by
  unfold f_J1_put
  refine vv_aload_n (pc := 0) X (kf := 0) (i := 0) rfl 0 rfl dJ1_put_0 ?_
  refine vv_aload_n (pc := 1) X (kf := 1) (i := 1) rfl 1 rfl dJ1_put_1 ?_
  refine vv_callI (pc := 2) (rest := [LR (some a0)]) (by rfl) (fun r8 k8 e8 => zz_callS X (m_J1_hash (hlM X) _ _ _ _ e8) q1168 q1169 q136 q1170 nh_J1 rfl (by decide) (by decide) (Nat.le_of_ble_eq_true rfl) dJ1_put_2) (fun v1 h2 => ?_)
  refine vv_aload_n (pc := 5) X (kf := 1) (i := 1) rfl 1 rfl dJ1_put_5 ?_
  refine vv_aload_n (pc := 6) X (kf := 2) (i := 2) rfl 2 rfl dJ1_put_6 ?_
  refine vv_iconst (pc := 7) X dJ1_put_7 ?_
  refine vv_iconst (pc := 8) X dJ1_put_8 ?_
  refine vv_rcv (fun b5 t9 c9 fs9 e6 g9 k9 => ?_)
  cases List.mem_singleton.mp k9
  refine vv_callR (pc := 9) (rest := []) (by rw [e6]; rfl) (fun r8 k8 e8 => zz_callV X (m_J1_putVal (hlM X) _ _ _ _ _ _ _ _ _ e8) g9 rfl rfl q1605 q1606 q1607 q136 q1608 nh_J1 rfl (by decide) (by decide) (Nat.le_of_ble_eq_true rfl) dJ1_put_9) (fun v3 h4 => ?_)
  exact vv_aretO X rfl rfl dJ1_put_12
theorem m_J1_put {l : Launch} (hl : l.stackTraces = false) {G : va_G} (a0 : Nat) (a1 : Option Nat) (a2 : Option Nat) (h : HP) : ∀ r hf, f_J1_put a0 a1 a2 h = some (r, hf) → Ct l yJ1_put (ws_ yJ1_put cJ1_put 3 (some (.object "java/lang/Object"))) 6 176 G h [.ref a0, va_rf a1, va_rf a2] (jR r) hf :=
  zz_ofW hl (by decide +kernel) (lv := [(0, LR (some a0)), (1, LR a1), (2, LR a2)]) (by simp [lv_args, lvL, lvV, zz_rfc, zz_rfs, zz_ci, zz_cr, zz_cj, zz_cf, zz_cd]) (by simp [lg_sl, zz_rfc, zz_ci, zz_cr, zz_cj, zz_cf, zz_cd]) (fun _ X => A_J1_put X a0 a1 a2 h)
-- J4_add_2 java/util/ArrayList.add(Ljava/lang/Object;[Ljava/lang/Object;I)V
noncomputable def f_J4_add_2 (a0 : Nat) (a1 : Option Nat) (a2 : Option Nat) (a3 : Int) (h : HP) : Option ((Unit) × HP) :=
  (alen h a2).bind fun v1 =>
  iEQ a3 v1
    (none)
    ((astR h "java/lang/Object" [1, 26] a2 a3 a1).bind fun h2 =>
    (wrI h2 (some a0) [24] 2 (a3 + 1)).bind fun h3 =>
    some ((), h3))
theorem A_J4_add_2 {M : hp_M} {G : va_G} {h0 : HP} (X : hp_X M G h0 "java/util/ArrayList" "add" cJ4_add_2 4 none [] 0 0) (a0 : Nat) (a1 : Option Nat) (a2 : Option Nat) (a3 : Int) (h : HP) : vv M G h0 4 (hp_End M G h0) jV h 0 [(0, LR (some a0)), (1, LR a1), (2, LR a2), (3, LI a3)] [] (f_J4_add_2 a0 a1 a2 a3 h) := by
  unfold f_J4_add_2
  refine vv_iload_n (pc := 0) X (kf := 3) (i := 3) rfl 3 rfl dJ4_add_2_0 ?_
  refine vv_aload_n (pc := 1) X (kf := 2) (i := 2) rfl 2 rfl dJ4_add_2_1 ?_
  refine vv_alen (pc := 2) X dJ4_add_2_2 (fun v1 => ?_)
  refine vv_icmp_ne (pc := 3) (tgt := 11) X dJ4_add_2_3 rfl ?_ ?_
  · refine vv_aload_n (pc := 11) X (kf := 2) (i := 2) rfl 2 rfl dJ4_add_2_11 ?_
    refine vv_iload_n (pc := 12) X (kf := 3) (i := 3) rfl 3 rfl dJ4_add_2_12 ?_
    refine vv_aload_n (pc := 13) X (kf := 1) (i := 1) rfl 1 rfl dJ4_add_2_13 ?_
    refine vv_aastore (pc := 14) X (fun _ z => by rcases List.mem_cons.mp z with rfl | z; exact ca_java_lang_Object_1; cases List.mem_singleton.mp z; exact ca_java_lang_Object_26) dJ4_add_2_14 (fun h2 => ?_)
    refine vv_aload_n (pc := 15) X (kf := 0) (i := 0) rfl 0 rfl dJ4_add_2_15 ?_
    refine vv_iload_n (pc := 16) X (kf := 3) (i := 3) rfl 3 rfl dJ4_add_2_16 ?_
    refine vv_iconst (pc := 17) X dJ4_add_2_17 ?_
    refine vv_iadd (pc := 18) X dJ4_add_2_18 ?_
    refine vv_putI (pc := 19) (fin := false) X (fun _ z => by cases List.mem_singleton.mp z; exact fl_J4_48_24) (fun z => nomatch z) (fun z => nomatch z) dJ4_add_2_19 (fun h3 => ?_)
    exact vv_vreturn X rfl rfl dJ4_add_2_22
  · refine vv_aload_n (pc := 6) X (kf := 0) (i := 0) rfl 0 rfl dJ4_add_2_6 ?_
    exact vv_none
theorem m_J4_add_2 {l : Launch} (hl : l.stackTraces = false) {G : va_G} (a0 : Nat) (a1 : Option Nat) (a2 : Option Nat) (a3 : Int) (h : HP) : ∀ r hf, f_J4_add_2 a0 a1 a2 a3 h = some (r, hf) → Ct l yJ4_add_2 (ws_ yJ4_add_2 cJ4_add_2 4 none) 0 0 G h [.ref a0, va_rf a1, va_rf a2, .int (iI a3)] (jV r) hf :=
  zz_ofW hl (by decide +kernel) (lv := [(0, LR (some a0)), (1, LR a1), (2, LR a2), (3, LI a3)]) (by simp [lv_args, lvL, lvV, zz_rfc, zz_rfs, zz_ci, zz_cr, zz_cj, zz_cf, zz_cd]) (by simp [lg_sl, zz_rfc, zz_ci, zz_cr, zz_cj, zz_cf, zz_cd]) (fun _ X => A_J4_add_2 X a0 a1 a2 a3 h)
-- J4_add java/util/ArrayList.add(Ljava/lang/Object;)Z
noncomputable def f_J4_add (a0 : Nat) (a1 : Option Nat) (h : HP) : Option ((Int) × HP) :=
  (rdI h (some a0) [24, 28] 0).bind fun v1 =>
  (wrI h (some a0) [24, 28] 0 (v1 + 1)).bind fun h2 =>
  (rdR h2 (some a0) [24] 1).bind fun v3 =>
  (rdI h2 (some a0) [24] 2).bind fun v4 =>
  (rcv h2 (some a0) [24]).bind fun b7 =>
  hb (f_J4_add_2 b7 a1 v3 v4 h2) fun _ h6 =>
  some (1, h6)
theorem A_J4_add {M : hp_M} {G : va_G} {h0 : HP} (X : hp_X M G h0 "java/util/ArrayList" "add" cJ4_add 2 (some .boolean) [] 1 31) (a0 : Nat) (a1 : Option Nat) (h : HP) : vv M G h0 2 (hp_End M G h0) jI h 0 [(0, LR (some a0)), (1, LR a1)] [] (f_J4_add a0 a1 h) := by
  unfold f_J4_add
  refine vv_aload_n (pc := 0) X (kf := 0) (i := 0) rfl 0 rfl dJ4_add_0 ?_
  refine vv_dup (pc := 1) X rfl dJ4_add_1 ?_
  refine vv_getI (pc := 2) X (fun _ z => by rcases List.mem_cons.mp z with rfl | z; exact fl_J4_63_24; cases List.mem_singleton.mp z; exact fl_J4_63_28) dJ4_add_2 (fun v1 => ?_)
  refine vv_iconst (pc := 5) X dJ4_add_5 ?_
  refine vv_iadd (pc := 6) X dJ4_add_6 ?_
  refine vv_putI (pc := 7) (fin := false) X (fun _ z => by rcases List.mem_cons.mp z with rfl | z; exact fl_J4_63_24; cases List.mem_singleton.mp z; exact fl_J4_63_28) (fun z => nomatch z) (fun z => nomatch z) dJ4_add_7 (fun h2 => ?_)
  refine vv_aload_n (pc := 10) X (kf := 0) (i := 0) rfl 0 rfl dJ4_add_10 ?_
  refine vv_aload_n (pc := 11) X (kf := 1) (i := 1) rfl 1 rfl dJ4_add_11 ?_
  refine vv_aload_n (pc := 12) X (kf := 0) (i := 0) rfl 0 rfl dJ4_add_12 ?_
  refine vv_getR (pc := 13) X (fun _ z => by cases List.mem_singleton.mp z; exact fl_J4_9_24) dJ4_add_13 (fun v3 => ?_)
  refine vv_aload_n (pc := 16) X (kf := 0) (i := 0) rfl 0 rfl dJ4_add_16 ?_
  refine vv_getI (pc := 17) X (fun _ z => by cases List.mem_singleton.mp z; exact fl_J4_48_24) dJ4_add_17 (fun v4 => ?_)
  refine vv_rcv (fun b7 t9 c9 fs9 e8 g9 k9 => ?_)
  cases List.mem_singleton.mp k9
  refine vv_callV (pc := 20) (rest := []) (by rw [e8]; rfl) (fun r8 k8 e8 => zz_callV X (m_J4_add_2 (hlM X) _ _ _ _ _ _ _ e8) g9 rfl rfl q1750 q1752 qs6 q139 q1753 nh_J4 rfl (by decide) (by decide) (Nat.le_of_ble_eq_true rfl) dJ4_add_20) (fun v5 h6 => ?_)
  refine vv_iconst (pc := 23) X dJ4_add_23 ?_
  exact vv_iret1 X rfl rfl dJ4_add_24
theorem m_J4_add {l : Launch} (hl : l.stackTraces = false) {G : va_G} (a0 : Nat) (a1 : Option Nat) (h : HP) : ∀ r hf, f_J4_add a0 a1 h = some (r, hf) → Ct l yJ4_add (ws_ yJ4_add cJ4_add 2 (some .boolean)) 1 31 G h [.ref a0, va_rf a1] (jI r) hf :=
  zz_ofW hl (by decide +kernel) (lv := [(0, LR (some a0)), (1, LR a1)]) (by simp [lv_args, lvL, lvV, zz_rfc, zz_rfs, zz_ci, zz_cr, zz_cj, zz_cf, zz_cd]) (by simp [lg_sl, zz_rfc, zz_ci, zz_cr, zz_cj, zz_cf, zz_cd]) (fun _ X => A_J4_add X a0 a1 h)
-- X3_comes RenamedWords$Names.comes(Ljava/lang/String;)V
noncomputable def f_X3_comes (a0 : Nat) (a1 : Option Nat) (h : HP) : Option ((Unit) × HP) :=
  (rdR h (some a0) [2] 0).bind fun v1 =>
  hb (nwO h 0 10 [.inr (.inl none)] 1) fun v2 h3 =>
  (v2).bind fun b6 =>
  hb (f_X13_init b6 a1 h3) fun _ h5 =>
  (rdR h5 (some a0) [2] 1).bind fun v8 =>
  (rcv h5 v8 [24]).bind fun b11 =>
  hb (f_J4_size b11 h5) fun v9 h10 =>
  hb (f_J19_valueOf v9 h10) fun v13 h14 =>
  (rcv h14 v1 [23]).bind fun b17 =>
  hb (f_J1_put b17 v2 v13 h14) fun v15 h16 =>
  (chk h16 v15 [27]).bind fun _ =>
  (rdR h16 (some a0) [2] 1).bind fun v19 =>
  (rcv h16 v19 [24]).bind fun b22 =>
  hb (f_J4_add b22 a1 h16) fun v20 h21 =>
  some ((), h21)
theorem A_X3_comes {M : hp_M} {G : va_G} {h0 : HP} (X : hp_X M G h0 "RenamedWords$Names" "comes" cX3_comes 4 none [] 7 206) (a0 : Nat) (a1 : Option Nat) (h : HP) : vv M G h0 4 (hp_End M G h0) jV h 0 [(0, LR (some a0)), (1, LR a1)] [] (f_X3_comes a0 a1 h) := by
  unfold f_X3_comes
  refine vv_aload_n (pc := 0) X (kf := 0) (i := 0) rfl 0 rfl dX3_comes_0 ?_
  refine vv_getR (pc := 1) X (fun _ z => by cases List.mem_singleton.mp z; exact fl_X3_12_2) dX3_comes_1 (fun v1 => ?_)
  refine vv_new (pc := 4) X tyX13 rfl in_X13 tyX13_ok q1144 q1145 q170 ndX13 (by decide) dX3_comes_4 (fun v2 h3 => ?_)
  refine vv_dup (pc := 7) X rfl dX3_comes_7 ?_
  refine vv_aload_n (pc := 8) X (kf := 1) (i := 1) rfl 1 rfl dX3_comes_8 ?_
  refine vv_bnd (fun b6 e7 => ?_)
  refine vv_callV (pc := 9) (rest := [LR v2, LR v1]) (by rw [e7]; rfl) (fun r8 k8 e8 => zz_callI X (m_X13_init (hlM X) _ _ _ _ _ e8) q1146 q1147 q170 q1148 rfl nh_X13 rfl (by decide) (by decide) (Nat.le_of_ble_eq_true rfl) dX3_comes_9) (fun v4 h5 => ?_)
  refine vv_aload_n (pc := 12) X (kf := 0) (i := 0) rfl 0 rfl dX3_comes_12 ?_
  refine vv_getR (pc := 13) X (fun _ z => by cases List.mem_singleton.mp z; exact fl_X3_23_2) dX3_comes_13 (fun v8 => ?_)
  refine vv_rcv (fun b11 t9 c9 fs9 e12 g9 k9 => ?_)
  cases List.mem_singleton.mp k9
  refine vv_callI (pc := 16) (rest := [LR v2, LR v1]) (by rw [e12]; rfl) (fun r8 k8 e8 => zz_callF X (m_J4_size (hlM X) _ _ _ _ e8) g9 rfl q1576 (List.mem_of_getElem? (i := 2) rfl) q1124 q1122 q139 q1126 nh_xjava_util_List rfl (by decide) (by decide) (Nat.le_of_ble_eq_true rfl) dX3_comes_16) (fun v9 h10 => ?_)
  refine vv_callR (pc := 21) (rest := [LR v2, LR v1]) (by rfl) (fun r8 k8 e8 => zz_callS X (m_J19_valueOf (hlM X) _ _ _ _ e8) q1577 q1578 q155 q1579 nh_J19 rfl (by decide) (by decide) (Nat.le_of_ble_eq_true rfl) dX3_comes_21) (fun v13 h14 => ?_)
  refine vv_rcv (fun b17 t9 c9 fs9 e18 g9 k9 => ?_)
  cases List.mem_singleton.mp k9
  refine vv_callR (pc := 24) (rest := []) (by rw [e18]; rfl) (fun r8 k8 e8 => zz_callF X (m_J1_put (hlM X) _ _ _ _ _ _ e8) g9 rfl q1597 (List.mem_of_getElem? (i := 1) rfl) q1602 q1600 q136 q1604 nh_xjava_util_Map rfl (by decide) (by decide) (Nat.le_of_ble_eq_true rfl) dX3_comes_24) (fun v15 h16 => ?_)
  refine vv_checkcast (pc := 29) X ⟨q1559, (fun _ z => by cases List.mem_singleton.mp z; exact ⟨_, rfl, Or.inl rfl⟩)⟩ dX3_comes_29 ?_
  refine vv_astore_n (pc := 32) (lv' := [(2, LR v15), (0, LR (some a0)), (1, LR a1)]) X (kf := 2) (i := 2) rfl (by decide) rfl dX3_comes_32 ?_
  refine vv_aload_n (pc := 33) X (kf := 0) (i := 0) rfl 1 rfl dX3_comes_33 ?_
  refine vv_getR (pc := 34) X (fun _ z => by cases List.mem_singleton.mp z; exact fl_X3_23_2) dX3_comes_34 (fun v19 => ?_)
  refine vv_aload_n (pc := 37) X (kf := 1) (i := 1) rfl 2 rfl dX3_comes_37 ?_
  refine vv_rcv (fun b22 t9 c9 fs9 e23 g9 k9 => ?_)
  cases List.mem_singleton.mp k9
  refine vv_callI (pc := 38) (rest := []) (by rw [e23]; rfl) (fun r8 k8 e8 => zz_callF X (m_J4_add (hlM X) _ _ _ _ _ e8) g9 rfl q1742 (List.mem_of_getElem? (i := 3) rfl) q1747 q1745 q139 q1749 nh_xjava_util_List rfl (by decide) (by decide) (Nat.le_of_ble_eq_true rfl) dX3_comes_38) (fun v20 h21 => ?_)
  refine vv_istore_n (pc := 43) (lv' := [(3, LI v20), (2, LR v15), (0, LR (some a0)), (1, LR a1)]) X (kf := 3) (i := 3) rfl (by decide) rfl dX3_comes_43 ?_
  exact vv_vreturn X rfl rfl dX3_comes_44
theorem m_X3_comes {l : Launch} (hl : l.stackTraces = false) {G : va_G} (a0 : Nat) (a1 : Option Nat) (h : HP) : ∀ r hf, f_X3_comes a0 a1 h = some (r, hf) → Ct l yX3_comes (ws_ yX3_comes cX3_comes 4 none) 7 206 G h [.ref a0, va_rf a1] (jV r) hf :=
  zz_ofW hl (by decide +kernel) (lv := [(0, LR (some a0)), (1, LR a1)]) (by simp [lv_args, lvL, lvV, zz_rfc, zz_rfs, zz_ci, zz_cr, zz_cj, zz_cf, zz_cd]) (by simp [lg_sl, zz_rfc, zz_ci, zz_cr, zz_cj, zz_cf, zz_cd]) (fun _ X => A_X3_comes X a0 a1 h)
