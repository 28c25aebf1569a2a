/-! STAGE 1c: functions and contracts (printed by gen/mkfuncs.py). -/
set_option maxRecDepth 100000
set_option linter.unusedVariables false
-- X15_order_3 RenamedWords$ScriptReader.order()LRenamedWords$Order;
noncomputable def b_X15_order_3_399 (s0 : Option Nat) (h : HP) : Option ((Nat ⊕ Option Nat) × HP) :=
  some (.inr s0, h)
theorem B_X15_order_3_399 {M : hp_M} {G : va_G} {h0 : HP} (X : hp_X M G h0 "RenamedWords$ScriptReader" "order" cX15_order 4 (some (.object "RenamedWords$Order")) [] 16 553) (s0 : Option Nat) (h : HP) : vv M G h0 4 (hp_End M G h0) xR h 399 [] [LR s0] (b_X15_order_3_399 s0 h) := by
  unfold b_X15_order_3_399
  exact vv_aretO X rfl rfl dX15_order_399
noncomputable def b_X15_order_3_243 (x0 : Option Nat) (x3 : Int) (h : HP) : Option ((Nat ⊕ Option Nat) × HP) :=
  iIN x3
    (if x3 = 0 then
      (rcv h x0 [12]).bind fun b38 =>
      hbx (f_X10_place b38 h) (fun q40 h41 =>
          some (.inl q40, h41)) fun v36 h37 =>
      (rcv h37 x0 [12]).bind fun b44 =>
      hbx (f_X15_letter b44 v36 1 h37) (fun q46 h47 =>
          some (.inl q46, h47)) fun v42 h43 =>
      b_X15_order_3_399 v42 h43
    else
    if x3 = 1 then
      (rcv h x0 [12]).bind fun b50 =>
      hbx (f_X10_place b50 h) (fun q52 h53 =>
          some (.inl q52, h53)) fun v48 h49 =>
      (rcv h49 x0 [12]).bind fun b56 =>
      hbx (f_X15_letter b56 v48 0 h49) (fun q58 h59 =>
          some (.inl q58, h59)) fun v54 h55 =>
      b_X15_order_3_399 v54 h55
    else
    if x3 = 2 then
      (rcv h x0 [12]).bind fun b62 =>
      hbx (f_X10_place b62 h) (fun q64 h65 =>
          some (.inl q64, h65)) fun v60 h61 =>
      (rcv h61 x0 [12]).bind fun b68 =>
      hbx (f_X15_erase b68 v60 h61) (fun q70 h71 =>
          some (.inl q70, h71)) fun v66 h67 =>
      b_X15_order_3_399 v66 h67
    else
    if x3 = 3 then
      (rcv h x0 [12]).bind fun b74 =>
      hbx (f_X15_known b74 h) (fun q76 h77 =>
          some (.inl q76, h77)) fun v72 h73 =>
      (rcv h73 x0 [12]).bind fun b80 =>
      hb (f_X15_mark b80 v72 h73) fun v78 h79 =>
      b_X15_order_3_399 v78 h79
    else
    if x3 = 4 then
      (rcv h x0 [12]).bind fun b84 =>
      hbx (f_X10_number b84 0 59 h) (fun q86 h87 =>
          some (.inl q86, h87)) fun v82 h83 =>
      (rcv h83 x0 [12]).bind fun b90 =>
      hb (f_X15_unmark b90 v82 h83) fun v88 h89 =>
      b_X15_order_3_399 v88 h89
    else
    if x3 = 5 then
      (rcv h x0 [12]).bind fun b94 =>
      hbx (f_X10_place b94 h) (fun q96 h97 =>
          some (.inl q96, h97)) fun v92 h93 =>
      (rcv h93 x0 [12]).bind fun b100 =>
      hbx (f_X15_swap b100 v92 h93) (fun q102 h103 =>
          some (.inl q102, h103)) fun v98 h99 =>
      b_X15_order_3_399 v98 h99
    else
    if x3 = 6 then
      (rcv h x0 [12]).bind fun b106 =>
      hbx (f_X15_known b106 h) (fun q108 h109 =>
          some (.inl q108, h109)) fun v104 h105 =>
      (rcv h105 x0 [12]).bind fun b112 =>
      hbx (f_X15_take b112 v104 h105) (fun q114 h115 =>
          some (.inl q114, h115)) fun v110 h111 =>
      b_X15_order_3_399 v110 h111
    else
    if x3 = 7 then
      (rcv h x0 [12]).bind fun b118 =>
      hbx (f_X10_number b118 0 26 h) (fun q120 h121 =>
          some (.inl q120, h121)) fun v116 h117 =>
      (rcv h117 x0 [12]).bind fun b124 =>
      hb (f_X15_firm b124 v116 h117) fun v122 h123 =>
      b_X15_order_3_399 v122 h123
    else
    (rcv h x0 [12]).bind fun b128 =>
    hbx (f_X10_number b128 0 20 h) (fun q130 h131 =>
        some (.inl q130, h131)) fun v126 h127 =>
    (rcv h127 x0 [12]).bind fun b134 =>
    hbx (f_X15_again_3 b134 v126 h127) (fun q136 h137 =>
        some (.inl q136, h137)) fun v132 h133 =>
    b_X15_order_3_399 v132 h133)
theorem B_X15_order_3_243 {M : hp_M} {G : va_G} {h0 : HP} (X : hp_X M G h0 "RenamedWords$ScriptReader" "order" cX15_order 4 (some (.object "RenamedWords$Order")) [] 16 553) (x0 : Option Nat) (x3 : Int) (h : HP) : vv M G h0 4 (hp_End M G h0) xR h 243 [(0, LR x0), (3, LI x3)] [] (b_X15_order_3_243 x0 x3 h) := by
  unfold b_X15_order_3_243
  refine vv_iload_n (pc := 243) X (kf := 3) (i := 3) rfl 1 rfl dX15_order_243 ?_
  refine vv_iIN (fun hr => ?_)
  refine vv_if (fun e0 => ?_) (fun e0 => ?_)
  · refine vv_tsw (pc := 244) (off := 48) (tgt := 292) X dX15_order_244 hr (by omega) (by omega) (by rw [e0]; rfl) rfl ?_
    refine vv_aload_n (pc := 292) X (kf := 0) (i := 0) rfl 0 rfl dX15_order_292 ?_
    refine vv_aload_n (pc := 293) X (kf := 0) (i := 0) rfl 0 rfl dX15_order_293 ?_
    refine vv_rcv (fun b38 t9 c9 fs9 e39 g9 k9 => ?_)
    cases List.mem_singleton.mp k9
    refine vv_xallI (pc := 294) (rest := [LR x0]) (by rw [e39]; rfl) (fun r8 k8 e8 => zz_callU X (m_X10_place (hlM X) _ _ _ _ e8) g9 rfl q1931 q1932 (va_Decl.of (X.1.2.2.2.2 _ q1935) (X.1.2.2.2.2 _ q1936)) (by decide) q1935 q1934 q165 q1936 rfl (by decide) (by decide) (Nat.le_of_ble_eq_true rfl) dX15_order_294) (fun v36 h37 => ?_) (fun q40 h41 => ?_)
    · refine vv_iconst (pc := 297) X dX15_order_297 ?_
      refine vv_rcv (fun b44 t9 c9 fs9 e45 g9 k9 => ?_)
      cases List.mem_singleton.mp k9
      refine vv_xallR (pc := 298) (rest := []) (by rw [e45]; rfl) (fun r8 k8 e8 => zz_callV X (m_X15_letter (hlM X) _ _ _ _ _ _ e8) g9 rfl rfl q1938 q1940 qs14 q180 q1941 nh_X15 rfl (by decide) (by decide) (Nat.le_of_ble_eq_true rfl) dX15_order_298) (fun v42 h43 => ?_) (fun q46 h47 => ?_)
      · refine vv_goto (pc := 301) (tgt := 399) X dX15_order_301 rfl ?_
        exact vv_sub [] (by rfl) (B_X15_order_3_399 X _ _)
      · exact vvx_out X (by decide) rfl
    · exact vvx_out X (by decide) rfl
  refine vv_if (fun e1 => ?_) (fun e1 => ?_)
  · refine vv_tsw (pc := 244) (off := 60) (tgt := 304) X dX15_order_244 hr (by omega) (by omega) (by rw [e1]; rfl) rfl ?_
    refine vv_aload_n (pc := 304) X (kf := 0) (i := 0) rfl 0 rfl dX15_order_304 ?_
    refine vv_aload_n (pc := 305) X (kf := 0) (i := 0) rfl 0 rfl dX15_order_305 ?_
    refine vv_rcv (fun b50 t9 c9 fs9 e51 g9 k9 => ?_)
    cases List.mem_singleton.mp k9
    refine vv_xallI (pc := 306) (rest := [LR x0]) (by rw [e51]; rfl) (fun r8 k8 e8 => zz_callU X (m_X10_place (hlM X) _ _ _ _ e8) g9 rfl q1931 q1932 (va_Decl.of (X.1.2.2.2.2 _ q1935) (X.1.2.2.2.2 _ q1936)) (by decide) q1935 q1934 q165 q1936 rfl (by decide) (by decide) (Nat.le_of_ble_eq_true rfl) dX15_order_306) (fun v48 h49 => ?_) (fun q52 h53 => ?_)
    · refine vv_iconst (pc := 309) X dX15_order_309 ?_
      refine vv_rcv (fun b56 t9 c9 fs9 e57 g9 k9 => ?_)
      cases List.mem_singleton.mp k9
      refine vv_xallR (pc := 310) (rest := []) (by rw [e57]; rfl) (fun r8 k8 e8 => zz_callV X (m_X15_letter (hlM X) _ _ _ _ _ _ e8) g9 rfl rfl q1938 q1940 qs14 q180 q1941 nh_X15 rfl (by decide) (by decide) (Nat.le_of_ble_eq_true rfl) dX15_order_310) (fun v54 h55 => ?_) (fun q58 h59 => ?_)
      · refine vv_goto (pc := 313) (tgt := 399) X dX15_order_313 rfl ?_
        exact vv_sub [] (by rfl) (B_X15_order_3_399 X _ _)
      · exact vvx_out X (by decide) rfl
    · exact vvx_out X (by decide) rfl
  refine vv_if (fun e2 => ?_) (fun e2 => ?_)
  · refine vv_tsw (pc := 244) (off := 72) (tgt := 316) X dX15_order_244 hr (by omega) (by omega) (by rw [e2]; rfl) rfl ?_
    refine vv_aload_n (pc := 316) X (kf := 0) (i := 0) rfl 0 rfl dX15_order_316 ?_
    refine vv_aload_n (pc := 317) X (kf := 0) (i := 0) rfl 0 rfl dX15_order_317 ?_
    refine vv_rcv (fun b62 t9 c9 fs9 e63 g9 k9 => ?_)
    cases List.mem_singleton.mp k9
    refine vv_xallI (pc := 318) (rest := [LR x0]) (by rw [e63]; rfl) (fun r8 k8 e8 => zz_callU X (m_X10_place (hlM X) _ _ _ _ e8) g9 rfl q1931 q1932 (va_Decl.of (X.1.2.2.2.2 _ q1935) (X.1.2.2.2.2 _ q1936)) (by decide) q1935 q1934 q165 q1936 rfl (by decide) (by decide) (Nat.le_of_ble_eq_true rfl) dX15_order_318) (fun v60 h61 => ?_) (fun q64 h65 => ?_)
    · refine vv_rcv (fun b68 t9 c9 fs9 e69 g9 k9 => ?_)
      cases List.mem_singleton.mp k9
      refine vv_xallR (pc := 321) (rest := []) (by rw [e69]; rfl) (fun r8 k8 e8 => zz_callV X (m_X15_erase (hlM X) _ _ _ _ _ e8) g9 rfl rfl q1970 q1972 qs15 q180 q1973 nh_X15 rfl (by decide) (by decide) (Nat.le_of_ble_eq_true rfl) dX15_order_321) (fun v66 h67 => ?_) (fun q70 h71 => ?_)
      · refine vv_goto (pc := 324) (tgt := 399) X dX15_order_324 rfl ?_
        exact vv_sub [] (by rfl) (B_X15_order_3_399 X _ _)
      · exact vvx_out X (by decide) rfl
    · exact vvx_out X (by decide) rfl
  refine vv_if (fun e3 => ?_) (fun e3 => ?_)
  · refine vv_tsw (pc := 244) (off := 83) (tgt := 327) X dX15_order_244 hr (by omega) (by omega) (by rw [e3]; rfl) rfl ?_
    refine vv_aload_n (pc := 327) X (kf := 0) (i := 0) rfl 0 rfl dX15_order_327 ?_
    refine vv_aload_n (pc := 328) X (kf := 0) (i := 0) rfl 0 rfl dX15_order_328 ?_
    refine vv_rcv (fun b74 t9 c9 fs9 e75 g9 k9 => ?_)
    cases List.mem_singleton.mp k9
    refine vv_xallI (pc := 329) (rest := [LR x0]) (by rw [e75]; rfl) (fun r8 k8 e8 => zz_callV X (m_X15_known (hlM X) _ _ _ _ e8) g9 rfl rfl q1994 q1996 qs16 q180 q1997 nh_X15 rfl (by decide) (by decide) (Nat.le_of_ble_eq_true rfl) dX15_order_329) (fun v72 h73 => ?_) (fun q76 h77 => ?_)
    · refine vv_rcv (fun b80 t9 c9 fs9 e81 g9 k9 => ?_)
      cases List.mem_singleton.mp k9
      refine vv_callR (pc := 332) (rest := []) (by rw [e81]; rfl) (fun r8 k8 e8 => zz_callV X (m_X15_mark (hlM X) _ _ _ _ _ e8) g9 rfl rfl q2002 q2004 qs17 q180 q2005 nh_X15 rfl (by decide) (by decide) (Nat.le_of_ble_eq_true rfl) dX15_order_332) (fun v78 h79 => ?_)
      refine vv_goto (pc := 335) (tgt := 399) X dX15_order_335 rfl ?_
      exact vv_sub [] (by rfl) (B_X15_order_3_399 X _ _)
    · exact vvx_out X (by decide) rfl
  refine vv_if (fun e4 => ?_) (fun e4 => ?_)
  · refine vv_tsw (pc := 244) (off := 94) (tgt := 338) X dX15_order_244 hr (by omega) (by omega) (by rw [e4]; rfl) rfl ?_
    refine vv_aload_n (pc := 338) X (kf := 0) (i := 0) rfl 0 rfl dX15_order_338 ?_
    refine vv_aload_n (pc := 339) X (kf := 0) (i := 0) rfl 0 rfl dX15_order_339 ?_
    refine vv_iconst (pc := 340) X dX15_order_340 ?_
    refine vv_bipush (pc := 341) X (by decide) dX15_order_341 ?_
    refine vv_rcv (fun b84 t9 c9 fs9 e85 g9 k9 => ?_)
    cases List.mem_singleton.mp k9
    refine vv_xallI (pc := 343) (rest := [LR x0]) (by rw [e85]; rfl) (fun r8 k8 e8 => zz_callU X (m_X10_number (hlM X) _ _ _ _ _ _ e8) g9 rfl q1974 q1975 (va_Decl.of (X.1.2.2.2.2 _ q1813) (X.1.2.2.2.2 _ q1814)) (by decide) q1813 q1976 q165 q1814 rfl (by decide) (by decide) (Nat.le_of_ble_eq_true rfl) dX15_order_343) (fun v82 h83 => ?_) (fun q86 h87 => ?_)
    · refine vv_rcv (fun b90 t9 c9 fs9 e91 g9 k9 => ?_)
      cases List.mem_singleton.mp k9
      refine vv_callR (pc := 346) (rest := []) (by rw [e91]; rfl) (fun r8 k8 e8 => zz_callV X (m_X15_unmark (hlM X) _ _ _ _ _ e8) g9 rfl rfl q2020 q2022 qs18 q180 q2023 nh_X15 rfl (by decide) (by decide) (Nat.le_of_ble_eq_true rfl) dX15_order_346) (fun v88 h89 => ?_)
      refine vv_goto (pc := 349) (tgt := 399) X dX15_order_349 rfl ?_
      exact vv_sub [] (by rfl) (B_X15_order_3_399 X _ _)
    · exact vvx_out X (by decide) rfl
  refine vv_if (fun e5 => ?_) (fun e5 => ?_)
  · refine vv_tsw (pc := 244) (off := 108) (tgt := 352) X dX15_order_244 hr (by omega) (by omega) (by rw [e5]; rfl) rfl ?_
    refine vv_aload_n (pc := 352) X (kf := 0) (i := 0) rfl 0 rfl dX15_order_352 ?_
    refine vv_aload_n (pc := 353) X (kf := 0) (i := 0) rfl 0 rfl dX15_order_353 ?_
    refine vv_rcv (fun b94 t9 c9 fs9 e95 g9 k9 => ?_)
    cases List.mem_singleton.mp k9
    refine vv_xallI (pc := 354) (rest := [LR x0]) (by rw [e95]; rfl) (fun r8 k8 e8 => zz_callU X (m_X10_place (hlM X) _ _ _ _ e8) g9 rfl q1931 q1932 (va_Decl.of (X.1.2.2.2.2 _ q1935) (X.1.2.2.2.2 _ q1936)) (by decide) q1935 q1934 q165 q1936 rfl (by decide) (by decide) (Nat.le_of_ble_eq_true rfl) dX15_order_354) (fun v92 h93 => ?_) (fun q96 h97 => ?_)
    · refine vv_rcv (fun b100 t9 c9 fs9 e101 g9 k9 => ?_)
      cases List.mem_singleton.mp k9
      refine vv_xallR (pc := 357) (rest := []) (by rw [e101]; rfl) (fun r8 k8 e8 => zz_callV X (m_X15_swap (hlM X) _ _ _ _ _ e8) g9 rfl rfl q2038 q2040 qs19 q180 q2041 nh_X15 rfl (by decide) (by decide) (Nat.le_of_ble_eq_true rfl) dX15_order_357) (fun v98 h99 => ?_) (fun q102 h103 => ?_)
      · refine vv_goto (pc := 360) (tgt := 399) X dX15_order_360 rfl ?_
        exact vv_sub [] (by rfl) (B_X15_order_3_399 X _ _)
      · exact vvx_out X (by decide) rfl
    · exact vvx_out X (by decide) rfl
  refine vv_if (fun e6 => ?_) (fun e6 => ?_)
  · refine vv_tsw (pc := 244) (off := 119) (tgt := 363) X dX15_order_244 hr (by omega) (by omega) (by rw [e6]; rfl) rfl ?_
    refine vv_aload_n (pc := 363) X (kf := 0) (i := 0) rfl 0 rfl dX15_order_363 ?_
    refine vv_aload_n (pc := 364) X (kf := 0) (i := 0) rfl 0 rfl dX15_order_364 ?_
    refine vv_rcv (fun b106 t9 c9 fs9 e107 g9 k9 => ?_)
    cases List.mem_singleton.mp k9
    refine vv_xallI (pc := 365) (rest := [LR x0]) (by rw [e107]; rfl) (fun r8 k8 e8 => zz_callV X (m_X15_known (hlM X) _ _ _ _ e8) g9 rfl rfl q1994 q1996 qs16 q180 q1997 nh_X15 rfl (by decide) (by decide) (Nat.le_of_ble_eq_true rfl) dX15_order_365) (fun v104 h105 => ?_) (fun q108 h109 => ?_)
    · refine vv_rcv (fun b112 t9 c9 fs9 e113 g9 k9 => ?_)
      cases List.mem_singleton.mp k9
      refine vv_xallR (pc := 368) (rest := []) (by rw [e113]; rfl) (fun r8 k8 e8 => zz_callV X (m_X15_take (hlM X) _ _ _ _ _ e8) g9 rfl rfl q2062 q2064 qs20 q180 q2065 nh_X15 rfl (by decide) (by decide) (Nat.le_of_ble_eq_true rfl) dX15_order_368) (fun v110 h111 => ?_) (fun q114 h115 => ?_)
      · refine vv_goto (pc := 371) (tgt := 399) X dX15_order_371 rfl ?_
        exact vv_sub [] (by rfl) (B_X15_order_3_399 X _ _)
      · exact vvx_out X (by decide) rfl
    · exact vvx_out X (by decide) rfl
  refine vv_if (fun e7 => ?_) (fun e7 => ?_)
  · refine vv_tsw (pc := 244) (off := 130) (tgt := 374) X dX15_order_244 hr (by omega) (by omega) (by rw [e7]; rfl) rfl ?_
    refine vv_aload_n (pc := 374) X (kf := 0) (i := 0) rfl 0 rfl dX15_order_374 ?_
    refine vv_aload_n (pc := 375) X (kf := 0) (i := 0) rfl 0 rfl dX15_order_375 ?_
    refine vv_iconst (pc := 376) X dX15_order_376 ?_
    refine vv_bipush (pc := 377) X (by decide) dX15_order_377 ?_
    refine vv_rcv (fun b118 t9 c9 fs9 e119 g9 k9 => ?_)
    cases List.mem_singleton.mp k9
    refine vv_xallI (pc := 379) (rest := [LR x0]) (by rw [e119]; rfl) (fun r8 k8 e8 => zz_callU X (m_X10_number (hlM X) _ _ _ _ _ _ e8) g9 rfl q1974 q1975 (va_Decl.of (X.1.2.2.2.2 _ q1813) (X.1.2.2.2.2 _ q1814)) (by decide) q1813 q1976 q165 q1814 rfl (by decide) (by decide) (Nat.le_of_ble_eq_true rfl) dX15_order_379) (fun v116 h117 => ?_) (fun q120 h121 => ?_)
    · refine vv_rcv (fun b124 t9 c9 fs9 e125 g9 k9 => ?_)
      cases List.mem_singleton.mp k9
      refine vv_callR (pc := 382) (rest := []) (by rw [e125]; rfl) (fun r8 k8 e8 => zz_callV X (m_X15_firm (hlM X) _ _ _ _ _ e8) g9 rfl rfl q2086 q2088 qs21 q180 q2089 nh_X15 rfl (by decide) (by decide) (Nat.le_of_ble_eq_true rfl) dX15_order_382) (fun v122 h123 => ?_)
      refine vv_goto (pc := 385) (tgt := 399) X dX15_order_385 rfl ?_
      exact vv_sub [] (by rfl) (B_X15_order_3_399 X _ _)
    · exact vvx_out X (by decide) rfl
  refine vv_tswD (pc := 244) (tgt := 388) X dX15_order_244 hr (by omega) rfl ?_
  refine vv_aload_n (pc := 388) X (kf := 0) (i := 0) rfl 0 rfl dX15_order_388 ?_
  refine vv_aload_n (pc := 389) X (kf := 0) (i := 0) rfl 0 rfl dX15_order_389 ?_
  refine vv_iconst (pc := 390) X dX15_order_390 ?_
  refine vv_bipush (pc := 391) X (by decide) dX15_order_391 ?_
  refine vv_rcv (fun b128 t9 c9 fs9 e129 g9 k9 => ?_)
  cases List.mem_singleton.mp k9
  refine vv_xallI (pc := 393) (rest := [LR x0]) (by rw [e129]; rfl) (fun r8 k8 e8 => zz_callU X (m_X10_number (hlM X) _ _ _ _ _ _ e8) g9 rfl q1974 q1975 (va_Decl.of (X.1.2.2.2.2 _ q1813) (X.1.2.2.2.2 _ q1814)) (by decide) q1813 q1976 q165 q1814 rfl (by decide) (by decide) (Nat.le_of_ble_eq_true rfl) dX15_order_393) (fun v126 h127 => ?_) (fun q130 h131 => ?_)
  · refine vv_rcv (fun b134 t9 c9 fs9 e135 g9 k9 => ?_)
    cases List.mem_singleton.mp k9
    refine vv_xallR (pc := 396) (rest := []) (by rw [e135]; rfl) (fun r8 k8 e8 => zz_callV X (m_X15_again_3 (hlM X) _ _ _ _ _ e8) g9 rfl rfl q2104 q2106 qs22 q180 q2107 nh_X15 rfl (by decide) (by decide) (Nat.le_of_ble_eq_true rfl) dX15_order_396) (fun v132 h133 => ?_) (fun q136 h137 => ?_)
    · exact vv_sub [] (by rfl) (B_X15_order_3_399 X _ _)
    · exact vvx_out X (by decide) rfl
  · exact vvx_out X (by decide) rfl
noncomputable def b_X15_order_3_30 (x0 : Option Nat) (x1 : Option Nat) (s0 : Int) (s1 : Option Nat) (h : HP) : Option ((Nat ⊕ Option Nat) × HP) :=
  (rcv h s1 [12]).bind fun b18 =>
  hbx (f_X10_must b18 s0 5 h) (fun q20 h21 =>
      some (.inl q20, h21)) fun _ h17 =>
  (rdI h17 x0 [12] 7).bind fun v22 =>
  (wrI h17 x0 [12] 7 (v22 + 1)).bind fun h23 =>
  (rcv h23 x0 [12]).bind fun b26 =>
  hb (f_X10_next b26 h23) fun _ h25 =>
  (rcv h25 x1 [26]).bind fun b30 =>
  hb (f_J11_hashCode b30 h25) fun v28 h29 =>
  iIN v28
    (if v28 = (-1183792455) then
      (rcv h29 x1 [26]).bind fun b34 =>
      hb (f_J11_equals b34 (hp_c h29 9) h29) fun v32 h33 =>
      iEQ v32 0
        (b_X15_order_3_243 x0 (-1) h33)
        (b_X15_order_3_243 x0 1 h33)
    else
    if v28 = (-840425242) then
      (rcv h29 x1 [26]).bind fun b140 =>
      hb (f_J11_equals b140 (hp_c h29 12) h29) fun v138 h139 =>
      iEQ v138 0
        (b_X15_order_3_243 x0 (-1) h139)
        (b_X15_order_3_243 x0 4 h139)
    else
    if v28 = 111375 then
      (rcv h29 x1 [26]).bind fun b144 =>
      hb (f_J11_equals b144 (hp_c h29 8) h29) fun v142 h143 =>
      iEQ v142 0
        (b_X15_order_3_243 x0 (-1) h143)
        (b_X15_order_3_243 x0 0 h143)
    else
    if v28 = 3143230 then
      (rcv h29 x1 [26]).bind fun b148 =>
      hb (f_J11_equals b148 (hp_c h29 15) h29) fun v146 h147 =>
      iEQ v146 0
        (b_X15_order_3_243 x0 (-1) h147)
        (b_X15_order_3_243 x0 7 h147)
    else
    if v28 = 3344077 then
      (rcv h29 x1 [26]).bind fun b152 =>
      hb (f_J11_equals b152 (hp_c h29 11) h29) fun v150 h151 =>
      iEQ v150 0
        (b_X15_order_3_243 x0 (-1) h151)
        (b_X15_order_3_243 x0 3 h151)
    else
    if v28 = 3543443 then
      (rcv h29 x1 [26]).bind fun b156 =>
      hb (f_J11_equals b156 (hp_c h29 13) h29) fun v154 h155 =>
      iEQ v154 0
        (b_X15_order_3_243 x0 (-1) h155)
        (b_X15_order_3_243 x0 5 h155)
    else
    if v28 = 3552391 then
      (rcv h29 x1 [26]).bind fun b160 =>
      hb (f_J11_equals b160 (hp_c h29 14) h29) fun v158 h159 =>
      iEQ v158 0
        (b_X15_order_3_243 x0 (-1) h159)
        (b_X15_order_3_243 x0 6 h159)
    else
    if v28 = 96768678 then
      (rcv h29 x1 [26]).bind fun b164 =>
      hb (f_J11_equals b164 (hp_c h29 10) h29) fun v162 h163 =>
      iEQ v162 0
        (b_X15_order_3_243 x0 (-1) h163)
        (b_X15_order_3_243 x0 2 h163)
    else
    b_X15_order_3_243 x0 (-1) h29)
theorem B_X15_order_3_30 {M : hp_M} {G : va_G} {h0 : HP} (X : hp_X M G h0 "RenamedWords$ScriptReader" "order" cX15_order 4 (some (.object "RenamedWords$Order")) [] 16 553) (x0 : Option Nat) (x1 : Option Nat) (s0 : Int) (s1 : Option Nat) (h : HP) : vv M G h0 4 (hp_End M G h0) xR h 30 [(0, LR x0), (1, LR x1)] [LI s0, LR s1] (b_X15_order_3_30 x0 x1 s0 s1 h) := by
  unfold b_X15_order_3_30
  refine vv_iconst (pc := 30) X dX15_order_30 ?_
  refine vv_rcv (fun b18 t9 c9 fs9 e19 g9 k9 => ?_)
  cases List.mem_singleton.mp k9
  refine vv_xallV (pc := 31) (rest := []) (by rw [e19]; rfl) (fun r8 k8 e8 => zz_callU X (m_X10_must (hlM X) _ _ _ _ _ _ e8) g9 rfl q1925 q1926 (va_Decl.of (X.1.2.2.2.2 _ q968) (X.1.2.2.2.2 _ q969)) (by decide) q968 q1927 q165 q969 rfl (by decide) (by decide) (Nat.le_of_ble_eq_true rfl) dX15_order_31) (fun v16 h17 => ?_) (fun q20 h21 => ?_)
  · refine vv_aload_n (pc := 34) X (kf := 0) (i := 0) rfl 0 rfl dX15_order_34 ?_
    refine vv_dup (pc := 35) X rfl dX15_order_35 ?_
    refine vv_getI (pc := 36) X (fun _ z => by cases List.mem_singleton.mp z; exact fl_X15_111_12) dX15_order_36 (fun v22 => ?_)
    refine vv_iconst (pc := 39) X dX15_order_39 ?_
    refine vv_iadd (pc := 40) X dX15_order_40 ?_
    refine vv_putI (pc := 41) (fin := false) X (fun _ z => by cases List.mem_singleton.mp z; exact fl_X15_111_12) (fun z => nomatch z) (fun z => nomatch z) dX15_order_41 (fun h23 => ?_)
    refine vv_aload_n (pc := 44) X (kf := 0) (i := 0) rfl 0 rfl dX15_order_44 ?_
    refine vv_rcv (fun b26 t9 c9 fs9 e27 g9 k9 => ?_)
    cases List.mem_singleton.mp k9
    refine vv_callV (pc := 45) (rest := []) (by rw [e27]; rfl) (fun r8 k8 e8 => zz_callU X (m_X10_next (hlM X) _ _ _ _ e8) g9 rfl q1928 q1929 (va_Decl.of (X.1.2.2.2.2 _ q860) (X.1.2.2.2.2 _ q864)) (by decide) q860 q1930 q165 q864 rfl (by decide) (by decide) (Nat.le_of_ble_eq_true rfl) dX15_order_45) (fun v24 h25 => ?_)
    refine vv_aload_n (pc := 48) X (kf := 1) (i := 1) rfl 1 rfl dX15_order_48 ?_
    refine vv_astore_n (pc := 49) (lv' := [(2, LR x1), (0, LR x0), (1, LR x1)]) X (kf := 2) (i := 2) rfl (by decide) rfl dX15_order_49 ?_
    refine vv_iconst (pc := 50) X dX15_order_50 ?_
    refine vv_istore_n (pc := 51) (lv' := [(3, LI (-1)), (2, LR x1), (0, LR x0), (1, LR x1)]) X (kf := 3) (i := 3) rfl (by decide) rfl dX15_order_51 ?_
    refine vv_aload_n (pc := 52) X (kf := 2) (i := 2) rfl 1 rfl dX15_order_52 ?_
    refine vv_rcv (fun b30 t9 c9 fs9 e31 g9 k9 => ?_)
    cases List.mem_singleton.mp k9
    refine vv_callI (pc := 53) (rest := []) (by rw [e31]; rfl) (fun r8 k8 e8 => zz_callV X (m_J11_hashCode (hlM X) _ _ _ _ e8) g9 rfl rfl q1914 q1051 q1052 q146 q1053 nh_J11 rfl (by decide) (by decide) (Nat.le_of_ble_eq_true rfl) dX15_order_53) (fun v28 h29 => ?_)
    refine vv_iIN (fun hr => ?_)
    refine vv_if (fun e0 => ?_) (fun e0 => ?_)
    · refine vv_lsw (pc := 56) (off := 90) (tgt := 146) X dX15_order_56 hr (by decide +kernel) (by rw [e0]; rfl) rfl ?_
      refine vv_aload_n (pc := 146) X (kf := 2) (i := 2) rfl 1 rfl dX15_order_146 ?_
      refine vv_ldcS (pc := 147) (i := 9) X (List.mem_of_getElem? (i := 9) rfl) dX15_order_147 ?_
      refine vv_rcv (fun b34 t9 c9 fs9 e35 g9 k9 => ?_)
      cases List.mem_singleton.mp k9
      refine vv_callI (pc := 149) (rest := []) (by rw [e35]; rfl) (fun r8 k8 e8 => zz_callV X (m_J11_equals (hlM X) _ _ _ _ _ e8) g9 rfl rfl q1916 q957 q958 q146 q959 nh_J11 rfl (by decide) (by decide) (Nat.le_of_ble_eq_true rfl) dX15_order_149) (fun v32 h33 => ?_)
      refine vv_if_eq (pc := 152) (tgt := 243) X dX15_order_152 rfl ?_ ?_
      · exact vv_sub [2, 0] (by rfl) (B_X15_order_3_243 X _ _ _)
      · refine vv_iconst (pc := 155) X dX15_order_155 ?_
        refine vv_istore_n (pc := 156) (lv' := [(3, LI 1), (2, LR x1), (0, LR x0), (1, LR x1)]) X (kf := 3) (i := 3) rfl (by decide) rfl dX15_order_156 ?_
        refine vv_goto (pc := 157) (tgt := 243) X dX15_order_157 rfl ?_
        exact vv_sub [2, 0] (by rfl) (B_X15_order_3_243 X _ _ _)
    refine vv_if (fun e1 => ?_) (fun e1 => ?_)
    · refine vv_lsw (pc := 56) (off := 132) (tgt := 188) X dX15_order_56 hr (by decide +kernel) (by rw [e1]; rfl) rfl ?_
      refine vv_aload_n (pc := 188) X (kf := 2) (i := 2) rfl 1 rfl dX15_order_188 ?_
      refine vv_ldcS (pc := 189) (i := 12) X (List.mem_of_getElem? (i := 12) rfl) dX15_order_189 ?_
      refine vv_rcv (fun b140 t9 c9 fs9 e141 g9 k9 => ?_)
      cases List.mem_singleton.mp k9
      refine vv_callI (pc := 191) (rest := []) (by rw [e141]; rfl) (fun r8 k8 e8 => zz_callV X (m_J11_equals (hlM X) _ _ _ _ _ e8) g9 rfl rfl q1916 q957 q958 q146 q959 nh_J11 rfl (by decide) (by decide) (Nat.le_of_ble_eq_true rfl) dX15_order_191) (fun v138 h139 => ?_)
      refine vv_if_eq (pc := 194) (tgt := 243) X dX15_order_194 rfl ?_ ?_
      · exact vv_sub [2, 0] (by rfl) (B_X15_order_3_243 X _ _ _)
      · refine vv_iconst (pc := 197) X dX15_order_197 ?_
        refine vv_istore_n (pc := 198) (lv' := [(3, LI 4), (2, LR x1), (0, LR x0), (1, LR x1)]) X (kf := 3) (i := 3) rfl (by decide) rfl dX15_order_198 ?_
        refine vv_goto (pc := 199) (tgt := 243) X dX15_order_199 rfl ?_
        exact vv_sub [2, 0] (by rfl) (B_X15_order_3_243 X _ _ _)
    refine vv_if (fun e2 => ?_) (fun e2 => ?_)
    · refine vv_lsw (pc := 56) (off := 76) (tgt := 132) X dX15_order_56 hr (by decide +kernel) (by rw [e2]; rfl) rfl ?_
      refine vv_aload_n (pc := 132) X (kf := 2) (i := 2) rfl 1 rfl dX15_order_132 ?_
      refine vv_ldcS (pc := 133) (i := 8) X (List.mem_of_getElem? (i := 8) rfl) dX15_order_133 ?_
      refine vv_rcv (fun b144 t9 c9 fs9 e145 g9 k9 => ?_)
      cases List.mem_singleton.mp k9
      refine vv_callI (pc := 135) (rest := []) (by rw [e145]; rfl) (fun r8 k8 e8 => zz_callV X (m_J11_equals (hlM X) _ _ _ _ _ e8) g9 rfl rfl q1916 q957 q958 q146 q959 nh_J11 rfl (by decide) (by decide) (Nat.le_of_ble_eq_true rfl) dX15_order_135) (fun v142 h143 => ?_)
      refine vv_if_eq (pc := 138) (tgt := 243) X dX15_order_138 rfl ?_ ?_
      · exact vv_sub [2, 0] (by rfl) (B_X15_order_3_243 X _ _ _)
      · refine vv_iconst (pc := 141) X dX15_order_141 ?_
        refine vv_istore_n (pc := 142) (lv' := [(3, LI 0), (2, LR x1), (0, LR x0), (1, LR x1)]) X (kf := 3) (i := 3) rfl (by decide) rfl dX15_order_142 ?_
        refine vv_goto (pc := 143) (tgt := 243) X dX15_order_143 rfl ?_
        exact vv_sub [2, 0] (by rfl) (B_X15_order_3_243 X _ _ _)
    refine vv_if (fun e3 => ?_) (fun e3 => ?_)
    · refine vv_lsw (pc := 56) (off := 175) (tgt := 231) X dX15_order_56 hr (by decide +kernel) (by rw [e3]; rfl) rfl ?_
      refine vv_aload_n (pc := 231) X (kf := 2) (i := 2) rfl 1 rfl dX15_order_231 ?_
      refine vv_ldcS (pc := 232) (i := 15) X (List.mem_of_getElem? (i := 15) rfl) dX15_order_232 ?_
      refine vv_rcv (fun b148 t9 c9 fs9 e149 g9 k9 => ?_)
      cases List.mem_singleton.mp k9
      refine vv_callI (pc := 234) (rest := []) (by rw [e149]; rfl) (fun r8 k8 e8 => zz_callV X (m_J11_equals (hlM X) _ _ _ _ _ e8) g9 rfl rfl q1916 q957 q958 q146 q959 nh_J11 rfl (by decide) (by decide) (Nat.le_of_ble_eq_true rfl) dX15_order_234) (fun v146 h147 => ?_)
      refine vv_if_eq (pc := 237) (tgt := 243) X dX15_order_237 rfl ?_ ?_
      · exact vv_sub [2, 0] (by rfl) (B_X15_order_3_243 X _ _ _)
      · refine vv_bipush (pc := 240) X (by decide) dX15_order_240 ?_
        refine vv_istore_n (pc := 242) (lv' := [(3, LI 7), (2, LR x1), (0, LR x0), (1, LR x1)]) X (kf := 3) (i := 3) rfl (by decide) rfl dX15_order_242 ?_
        exact vv_sub [2, 0] (by rfl) (B_X15_order_3_243 X _ _ _)
    refine vv_if (fun e4 => ?_) (fun e4 => ?_)
    · refine vv_lsw (pc := 56) (off := 118) (tgt := 174) X dX15_order_56 hr (by decide +kernel) (by rw [e4]; rfl) rfl ?_
      refine vv_aload_n (pc := 174) X (kf := 2) (i := 2) rfl 1 rfl dX15_order_174 ?_
      refine vv_ldcS (pc := 175) (i := 11) X (List.mem_of_getElem? (i := 11) rfl) dX15_order_175 ?_
      refine vv_rcv (fun b152 t9 c9 fs9 e153 g9 k9 => ?_)
      cases List.mem_singleton.mp k9
      refine vv_callI (pc := 177) (rest := []) (by rw [e153]; rfl) (fun r8 k8 e8 => zz_callV X (m_J11_equals (hlM X) _ _ _ _ _ e8) g9 rfl rfl q1916 q957 q958 q146 q959 nh_J11 rfl (by decide) (by decide) (Nat.le_of_ble_eq_true rfl) dX15_order_177) (fun v150 h151 => ?_)
      refine vv_if_eq (pc := 180) (tgt := 243) X dX15_order_180 rfl ?_ ?_
      · exact vv_sub [2, 0] (by rfl) (B_X15_order_3_243 X _ _ _)
      · refine vv_iconst (pc := 183) X dX15_order_183 ?_
        refine vv_istore_n (pc := 184) (lv' := [(3, LI 3), (2, LR x1), (0, LR x0), (1, LR x1)]) X (kf := 3) (i := 3) rfl (by decide) rfl dX15_order_184 ?_
        refine vv_goto (pc := 185) (tgt := 243) X dX15_order_185 rfl ?_
        exact vv_sub [2, 0] (by rfl) (B_X15_order_3_243 X _ _ _)
    refine vv_if (fun e5 => ?_) (fun e5 => ?_)
    · refine vv_lsw (pc := 56) (off := 146) (tgt := 202) X dX15_order_56 hr (by decide +kernel) (by rw [e5]; rfl) rfl ?_
      refine vv_aload_n (pc := 202) X (kf := 2) (i := 2) rfl 1 rfl dX15_order_202 ?_
      refine vv_ldcS (pc := 203) (i := 13) X (List.mem_of_getElem? (i := 13) rfl) dX15_order_203 ?_
      refine vv_rcv (fun b156 t9 c9 fs9 e157 g9 k9 => ?_)
      cases List.mem_singleton.mp k9
      refine vv_callI (pc := 205) (rest := []) (by rw [e157]; rfl) (fun r8 k8 e8 => zz_callV X (m_J11_equals (hlM X) _ _ _ _ _ e8) g9 rfl rfl q1916 q957 q958 q146 q959 nh_J11 rfl (by decide) (by decide) (Nat.le_of_ble_eq_true rfl) dX15_order_205) (fun v154 h155 => ?_)
      refine vv_if_eq (pc := 208) (tgt := 243) X dX15_order_208 rfl ?_ ?_
      · exact vv_sub [2, 0] (by rfl) (B_X15_order_3_243 X _ _ _)
      · refine vv_iconst (pc := 211) X dX15_order_211 ?_
        refine vv_istore_n (pc := 212) (lv' := [(3, LI 5), (2, LR x1), (0, LR x0), (1, LR x1)]) X (kf := 3) (i := 3) rfl (by decide) rfl dX15_order_212 ?_
        refine vv_goto (pc := 213) (tgt := 243) X dX15_order_213 rfl ?_
        exact vv_sub [2, 0] (by rfl) (B_X15_order_3_243 X _ _ _)
    refine vv_if (fun e6 => ?_) (fun e6 => ?_)
    · refine vv_lsw (pc := 56) (off := 160) (tgt := 216) X dX15_order_56 hr (by decide +kernel) (by rw [e6]; rfl) rfl ?_
      refine vv_aload_n (pc := 216) X (kf := 2) (i := 2) rfl 1 rfl dX15_order_216 ?_
      refine vv_ldcS (pc := 217) (i := 14) X (List.mem_of_getElem? (i := 14) rfl) dX15_order_217 ?_
      refine vv_rcv (fun b160 t9 c9 fs9 e161 g9 k9 => ?_)
      cases List.mem_singleton.mp k9
      refine vv_callI (pc := 219) (rest := []) (by rw [e161]; rfl) (fun r8 k8 e8 => zz_callV X (m_J11_equals (hlM X) _ _ _ _ _ e8) g9 rfl rfl q1916 q957 q958 q146 q959 nh_J11 rfl (by decide) (by decide) (Nat.le_of_ble_eq_true rfl) dX15_order_219) (fun v158 h159 => ?_)
      refine vv_if_eq (pc := 222) (tgt := 243) X dX15_order_222 rfl ?_ ?_
      · exact vv_sub [2, 0] (by rfl) (B_X15_order_3_243 X _ _ _)
      · refine vv_bipush (pc := 225) X (by decide) dX15_order_225 ?_
        refine vv_istore_n (pc := 227) (lv' := [(3, LI 6), (2, LR x1), (0, LR x0), (1, LR x1)]) X (kf := 3) (i := 3) rfl (by decide) rfl dX15_order_227 ?_
        refine vv_goto (pc := 228) (tgt := 243) X dX15_order_228 rfl ?_
        exact vv_sub [2, 0] (by rfl) (B_X15_order_3_243 X _ _ _)
    refine vv_if (fun e7 => ?_) (fun e7 => ?_)
    · refine vv_lsw (pc := 56) (off := 104) (tgt := 160) X dX15_order_56 hr (by decide +kernel) (by rw [e7]; rfl) rfl ?_
      refine vv_aload_n (pc := 160) X (kf := 2) (i := 2) rfl 1 rfl dX15_order_160 ?_
      refine vv_ldcS (pc := 161) (i := 10) X (List.mem_of_getElem? (i := 10) rfl) dX15_order_161 ?_
      refine vv_rcv (fun b164 t9 c9 fs9 e165 g9 k9 => ?_)
      cases List.mem_singleton.mp k9
      refine vv_callI (pc := 163) (rest := []) (by rw [e165]; rfl) (fun r8 k8 e8 => zz_callV X (m_J11_equals (hlM X) _ _ _ _ _ e8) g9 rfl rfl q1916 q957 q958 q146 q959 nh_J11 rfl (by decide) (by decide) (Nat.le_of_ble_eq_true rfl) dX15_order_163) (fun v162 h163 => ?_)
      refine vv_if_eq (pc := 166) (tgt := 243) X dX15_order_166 rfl ?_ ?_
      · exact vv_sub [2, 0] (by rfl) (B_X15_order_3_243 X _ _ _)
      · refine vv_iconst (pc := 169) X dX15_order_169 ?_
        refine vv_istore_n (pc := 170) (lv' := [(3, LI 2), (2, LR x1), (0, LR x0), (1, LR x1)]) X (kf := 3) (i := 3) rfl (by decide) rfl dX15_order_170 ?_
        refine vv_goto (pc := 171) (tgt := 243) X dX15_order_171 rfl ?_
        exact vv_sub [2, 0] (by rfl) (B_X15_order_3_243 X _ _ _)
    refine vv_lsw (pc := 56) (off := 187) (tgt := 243) X dX15_order_56 hr (by decide +kernel) (by simp [Op.lookupswitch.offset, Ne.symm e0, Ne.symm e1, Ne.symm e2, Ne.symm e3, Ne.symm e4, Ne.symm e5, Ne.symm e6, Ne.symm e7]) rfl ?_
    exact vv_sub [2, 0] (by rfl) (B_X15_order_3_243 X _ _ _)
  · exact vvx_out X (by decide) rfl
noncomputable def f_X15_order_3 (a0 : Nat) (h : HP) : Option ((Nat ⊕ Option Nat) × HP) :=
  (rcv h (some a0) [12]).bind fun b3 =>
  hb (f_X10_word b3 h) fun v1 h2 =>
  (rcv h2 (some a0) [12]).bind fun b7 =>
  hb (f_X15_isOrder b7 v1 h2) fun v5 h6 =>
  (rcv h6 (some a0) [12]).bind fun b11 =>
  hbx (f_X10_must b11 v5 1 h6) (fun q13 h14 =>
      some (.inl q13, h14)) fun _ h10 =>
  (rdI h10 (some a0) [12] 7).bind fun v15 =>
  iLE 30 v15
    (b_X15_order_3_30 (some a0) v1 0 (some a0) h10)
    (b_X15_order_3_30 (some a0) v1 1 (some a0) h10)
theorem A_X15_order_3 {M : hp_M} {G : va_G} {h0 : HP} (X : hp_X M G h0 "RenamedWords$ScriptReader" "order" cX15_order 4 (some (.object "RenamedWords$Order")) [] 16 553) (a0 : Nat) (h : HP) : vv M G h0 4 (hp_End M G h0) xR h 0 [(0, LR (some a0))] [] (f_X15_order_3 a0 h) := by
  unfold f_X15_order_3
  refine vv_aload_n (pc := 0) X (kf := 0) (i := 0) rfl 0 rfl dX15_order_0 ?_
  refine vv_rcv (fun b3 t9 c9 fs9 e4 g9 k9 => ?_)
  cases List.mem_singleton.mp k9
  refine vv_callR (pc := 1) (rest := []) (by rw [e4]; rfl) (fun r8 k8 e8 => zz_callU X (m_X10_word (hlM X) _ _ _ _ e8) g9 rfl q1907 q1908 (va_Decl.of (X.1.2.2.2.2 _ q953) (X.1.2.2.2.2 _ q954)) (by decide) q953 q1909 q165 q954 rfl (by decide) (by decide) (Nat.le_of_ble_eq_true rfl) dX15_order_1) (fun v1 h2 => ?_)
  refine vv_astore_n (pc := 4) (lv' := [(1, LR v1), (0, LR (some a0))]) X (kf := 1) (i := 1) rfl (by decide) rfl dX15_order_4 ?_
  refine vv_aload_n (pc := 5) X (kf := 0) (i := 0) rfl 1 rfl dX15_order_5 ?_
  refine vv_aload_n (pc := 6) X (kf := 0) (i := 0) rfl 1 rfl dX15_order_6 ?_
  refine vv_aload_n (pc := 7) X (kf := 1) (i := 1) rfl 0 rfl dX15_order_7 ?_
  refine vv_rcv (fun b7 t9 c9 fs9 e8 g9 k9 => ?_)
  cases List.mem_singleton.mp k9
  refine vv_callI (pc := 8) (rest := [LR (some a0)]) (by rw [e8]; rfl) (fun r8 k8 e8 => zz_callV X (m_X15_isOrder (hlM X) _ _ _ _ _ e8) g9 rfl rfl q1910 q1912 qs13 q180 q1913 nh_X15 rfl (by decide) (by decide) (Nat.le_of_ble_eq_true rfl) dX15_order_8) (fun v5 h6 => ?_)
  refine vv_iconst (pc := 11) X dX15_order_11 ?_
  refine vv_rcv (fun b11 t9 c9 fs9 e12 g9 k9 => ?_)
  cases List.mem_singleton.mp k9
  refine vv_xallV (pc := 12) (rest := []) (by rw [e12]; rfl) (fun r8 k8 e8 => zz_callU X (m_X10_must (hlM X) _ _ _ _ _ _ e8) g9 rfl q1925 q1926 (va_Decl.of (X.1.2.2.2.2 _ q968) (X.1.2.2.2.2 _ q969)) (by decide) q968 q1927 q165 q969 rfl (by decide) (by decide) (Nat.le_of_ble_eq_true rfl) dX15_order_12) (fun v9 h10 => ?_) (fun q13 h14 => ?_)
  · refine vv_aload_n (pc := 15) X (kf := 0) (i := 0) rfl 1 rfl dX15_order_15 ?_
    refine vv_aload_n (pc := 16) X (kf := 0) (i := 0) rfl 1 rfl dX15_order_16 ?_
    refine vv_getI (pc := 17) X (fun _ z => by cases List.mem_singleton.mp z; exact fl_X15_111_12) dX15_order_17 (fun v15 => ?_)
    refine vv_bipush (pc := 20) X (by decide) dX15_order_20 ?_
    refine vv_icmp_ge (pc := 22) (tgt := 29) X dX15_order_22 rfl ?_ ?_
    · refine vv_iconst (pc := 29) X dX15_order_29 ?_
      exact vv_sub [1, 0] (by rfl) (B_X15_order_3_30 X _ _ _ _ _)
    · refine vv_iconst (pc := 25) X dX15_order_25 ?_
      refine vv_goto (pc := 26) (tgt := 30) X dX15_order_26 rfl ?_
      exact vv_sub [1, 0] (by rfl) (B_X15_order_3_30 X _ _ _ _ _)
  · exact vvx_out X (by decide) rfl
theorem m_X15_order_3 {l : Launch} (hl : l.stackTraces = false) {G : va_G} (a0 : Nat) (h : HP) : ∀ r hf, f_X15_order_3 a0 h = some (r, hf) → Ct l yX15_order (ws_ yX15_order cX15_order 4 (some (.object "RenamedWords$Order"))) 16 553 G h [.ref a0] (xR r) hf :=
  zz_ofW hl (by decide +kernel) (lv := [(0, LR (some a0))]) (by simp [lv_args, lvL, lvV, zz_rfc, zz_rfs, zz_ci, zz_cr, zz_cj, zz_cf, zz_cd]) (by simp [lg_sl, zz_rfc, zz_ci, zz_cr, zz_cj, zz_cf, zz_cd]) (fun _ X => A_X15_order_3 X a0 h)
-- X15_orders_3 RenamedWords$ScriptReader.orders(I)LRenamedWords$Script;
noncomputable def b_X15_orders_3_45 (x2 : Option Nat) (h : HP) : Option ((Nat ⊕ Option Nat) × HP) :=
  some (.inr x2, h)
theorem B_X15_orders_3_45 {M : hp_M} {G : va_G} {h0 : HP} (X : hp_X M G h0 "RenamedWords$ScriptReader" "orders" cX15_orders 3 (some (.object "RenamedWords$Script")) [] 17 584) (x2 : Option Nat) (h : HP) : vv M G h0 3 (hp_End M G h0) xR h 45 [(2, LR x2)] [] (b_X15_orders_3_45 x2 h) := by
  unfold b_X15_orders_3_45
  refine vv_aload_n (pc := 45) X (kf := 2) (i := 2) rfl 0 rfl dX15_orders_45 ?_
  exact vv_aretO X rfl rfl dX15_orders_46
noncomputable def c_X15_orders_3_9 (r9 : Option Nat → Option Nat → HP → Option ((Nat ⊕ Option Nat) × HP)) (x0 : Option Nat) (x2 : Option Nat) (h : HP) : Option ((Nat ⊕ Option Nat) × HP) :=
  (rcv h x0 [12]).bind fun b9 =>
  hb (f_X10_isEnd b9 h) fun v7 h8 =>
  iEQ v7 0
    ((rcv h8 x0 [12]).bind fun b13 =>
    hb (f_X10_isSign b13 41 h8) fun v11 h12 =>
    iEQ v11 0
      ((rdR h12 x2 [13] 0).bind fun v15 =>
      (rcv h12 x0 [12]).bind fun b18 =>
      hbx (f_X15_order_3 b18 h12) (fun q20 h21 =>
          some (.inl q20, h21)) fun v16 h17 =>
      (rcv h17 v15 [28]).bind fun b24 =>
      hb (f_J21_addLast b24 v16 h17) fun _ h23 =>
      (rcv h23 x0 [12]).bind fun b28 =>
      hbx (f_X10_sign b28 59 h23) (fun q30 h31 =>
          some (.inl q30, h31)) fun _ h27 =>
      r9 x0 x2 h27)
      (b_X15_orders_3_45 x2 h12))
    (b_X15_orders_3_45 x2 h8)
noncomputable def b_X15_orders_3_9 : Option Nat → Option Nat → HP → Option ((Nat ⊕ Option Nat) × HP) := fx (fun _ _ _ => none) (c_X15_orders_3_9) FU
theorem C_X15_orders_3_9 {M : hp_M} {G : va_G} {h0 : HP} (X : hp_X M G h0 "RenamedWords$ScriptReader" "orders" cX15_orders 3 (some (.object "RenamedWords$Script")) [] 17 584) (r9 : Option Nat → Option Nat → HP → Option ((Nat ⊕ Option Nat) × HP)) (hr9 : ∀ (y0 : Option Nat) (y2 : Option Nat) (h : HP), vv M G h0 3 (hp_End M G h0) xR h 9 [(0, LR y0), (2, LR y2)] [] (r9 y0 y2 h)) (x0 : Option Nat) (x2 : Option Nat) (h : HP) : vv M G h0 3 (hp_End M G h0) xR h 9 [(0, LR x0), (2, LR x2)] [] (c_X15_orders_3_9 r9 x0 x2 h) := by
  unfold c_X15_orders_3_9
  refine vv_aload_n (pc := 9) X (kf := 0) (i := 0) rfl 0 rfl dX15_orders_9 ?_
  refine vv_rcv (fun b9 t9 c9 fs9 e10 g9 k9 => ?_)
  cases List.mem_singleton.mp k9
  refine vv_callI (pc := 10) (rest := []) (by rw [e10]; rfl) (fun r8 k8 e8 => zz_callU X (m_X10_isEnd (hlM X) _ _ _ _ e8) g9 rfl q1897 q1898 (va_Decl.of (X.1.2.2.2.2 _ q1819) (X.1.2.2.2.2 _ q1820)) (by decide) q1819 q1899 q165 q1820 rfl (by decide) (by decide) (Nat.le_of_ble_eq_true rfl) dX15_orders_10) (fun v7 h8 => ?_)
  refine vv_if_ne (pc := 13) (tgt := 45) X dX15_orders_13 rfl ?_ ?_
  · exact vv_sub [1] (by rfl) (B_X15_orders_3_45 X _ _)
  · refine vv_aload_n (pc := 16) X (kf := 0) (i := 0) rfl 0 rfl dX15_orders_16 ?_
    refine vv_bipush (pc := 17) X (by decide) dX15_orders_17 ?_
    refine vv_rcv (fun b13 t9 c9 fs9 e14 g9 k9 => ?_)
    cases List.mem_singleton.mp k9
    refine vv_callI (pc := 19) (rest := []) (by rw [e14]; rfl) (fun r8 k8 e8 => zz_callU X (m_X10_isSign (hlM X) _ _ _ _ _ e8) g9 rfl q1900 q1901 (va_Decl.of (X.1.2.2.2.2 _ q1044) (X.1.2.2.2.2 _ q1045)) (by decide) q1044 q1902 q165 q1045 rfl (by decide) (by decide) (Nat.le_of_ble_eq_true rfl) dX15_orders_19) (fun v11 h12 => ?_)
    refine vv_if_ne (pc := 22) (tgt := 45) X dX15_orders_22 rfl ?_ ?_
    · exact vv_sub [1] (by rfl) (B_X15_orders_3_45 X _ _)
    · refine vv_aload_n (pc := 25) X (kf := 2) (i := 2) rfl 1 rfl dX15_orders_25 ?_
      refine vv_getR (pc := 26) X (fun _ z => by cases List.mem_singleton.mp z; exact fl_X15_36_13) dX15_orders_26 (fun v15 => ?_)
      refine vv_aload_n (pc := 29) X (kf := 0) (i := 0) rfl 0 rfl dX15_orders_29 ?_
      refine vv_rcv (fun b18 t9 c9 fs9 e19 g9 k9 => ?_)
      cases List.mem_singleton.mp k9
      refine vv_xallR (pc := 30) (rest := [LR v15]) (by rw [e19]; rfl) (fun r8 k8 e8 => zz_callV X (m_X15_order_3 (hlM X) _ _ _ _ e8) g9 rfl rfl q1903 q1905 qs12 q180 q1906 nh_X15 rfl (by decide) (by decide) (Nat.le_of_ble_eq_true rfl) dX15_orders_30) (fun v16 h17 => ?_) (fun q20 h21 => ?_)
      · refine vv_rcv (fun b24 t9 c9 fs9 e25 g9 k9 => ?_)
        cases List.mem_singleton.mp k9
        refine vv_callV (pc := 33) (rest := []) (by rw [e25]; rfl) (fun r8 k8 e8 => zz_callV X (m_J21_addLast (hlM X) _ _ _ _ _ e8) g9 rfl rfl q2115 q2116 q2117 q162 q2118 nh_J21 rfl (by decide) (by decide) (Nat.le_of_ble_eq_true rfl) dX15_orders_33) (fun v22 h23 => ?_)
        refine vv_aload_n (pc := 36) X (kf := 0) (i := 0) rfl 0 rfl dX15_orders_36 ?_
        refine vv_bipush (pc := 37) X (by decide) dX15_orders_37 ?_
        refine vv_rcv (fun b28 t9 c9 fs9 e29 g9 k9 => ?_)
        cases List.mem_singleton.mp k9
        refine vv_xallV (pc := 39) (rest := []) (by rw [e29]; rfl) (fun r8 k8 e8 => zz_callU X (m_X10_sign (hlM X) _ _ _ _ _ e8) g9 rfl q2108 q2109 (va_Decl.of (X.1.2.2.2.2 _ q2112) (X.1.2.2.2.2 _ q2113)) (by decide) q2112 q2111 q165 q2113 rfl (by decide) (by decide) (Nat.le_of_ble_eq_true rfl) dX15_orders_39) (fun v26 h27 => ?_) (fun q30 h31 => ?_)
        · refine vv_goto (pc := 42) (tgt := 9) X dX15_orders_42 rfl ?_
          exact hr9 _ _ _
        · exact vvx_out X (by decide) rfl
      · exact vvx_out X (by decide) rfl
theorem B_X15_orders_3_9 {M : hp_M} {G : va_G} {h0 : HP} (X : hp_X M G h0 "RenamedWords$ScriptReader" "orders" cX15_orders 3 (some (.object "RenamedWords$Script")) [] 17 584) : ∀ (x0 : Option Nat) (x2 : Option Nat) (h : HP), vv M G h0 3 (hp_End M G h0) xR h 9 [(0, LR x0), (2, LR x2)] [] (b_X15_orders_3_9 x0 x2 h) := by
  unfold b_X15_orders_3_9
  generalize FU = n
  induction n with
  | zero => intro x0 x2 h; exact vv_none
  | succ n ih => exact C_X15_orders_3_9 X _ ih
noncomputable def f_X15_orders_3 (a0 : Nat) (a1 : Int) (h : HP) : Option ((Nat ⊕ Option Nat) × HP) :=
  hb (nwO h (tgR h (some a0)) 13 [.inr (.inl none), .inl 0] 2) fun v1 h2 =>
  (v1).bind fun b5 =>
  hb (f_X17_init b5 a1 h2) fun _ h4 =>
  b_X15_orders_3_9 (some a0) v1 h4
theorem A_X15_orders_3 {M : hp_M} {G : va_G} {h0 : HP} (X : hp_X M G h0 "RenamedWords$ScriptReader" "orders" cX15_orders 3 (some (.object "RenamedWords$Script")) [] 17 584) (a0 : Nat) (a1 : Int) (h : HP) : vv M G h0 3 (hp_End M G h0) xR h 0 [(0, LR (some a0)), (1, LI a1)] [] (f_X15_orders_3 a0 a1 h) := by
  unfold f_X15_orders_3
  refine vv_new (pc := 0) X tyX17 rfl in_X17 tyX17_ok q1878 q1879 q182 ndX17 (by decide) dX15_orders_0 (fun v1 h2 => ?_)
  refine vv_dup (pc := 3) X rfl dX15_orders_3 ?_
  refine vv_iload_n (pc := 4) X (kf := 1) (i := 1) rfl 1 rfl dX15_orders_4 ?_
  refine vv_bnd (fun b5 e6 => ?_)
  refine vv_callV (pc := 5) (rest := [LR v1]) (by rw [e6]; rfl) (fun r8 k8 e8 => zz_callI X (m_X17_init (hlM X) _ _ _ _ _ e8) q1880 q1881 q182 q1882 rfl nh_X17 rfl (by decide) (by decide) (Nat.le_of_ble_eq_true rfl) dX15_orders_5) (fun v3 h4 => ?_)
  refine vv_astore_n (pc := 8) (lv' := [(2, LR v1), (0, LR (some a0)), (1, LI a1)]) X (kf := 2) (i := 2) rfl (by decide) rfl dX15_orders_8 ?_
  exact vv_sub [1, 0] (by rfl) (B_X15_orders_3_9 X _ _ _)
theorem m_X15_orders_3 {l : Launch} (hl : l.stackTraces = false) {G : va_G} (a0 : Nat) (a1 : Int) (h : HP) : ∀ r hf, f_X15_orders_3 a0 a1 h = some (r, hf) → Ct l yX15_orders (ws_ yX15_orders cX15_orders 3 (some (.object "RenamedWords$Script"))) 17 584 G h [.ref a0, .int (iI a1)] (xR r) hf :=
  zz_ofW hl (by decide +kernel) (lv := [(0, LR (some a0)), (1, LI a1)]) (by simp [lv_args, lvL, lvV, zz_rfc, zz_rfs, zz_ci, zz_cr, zz_cj, zz_cf, zz_cd]) (by simp [lg_sl, zz_rfc, zz_ci, zz_cr, zz_cj, zz_cf, zz_cd]) (fun _ X => A_X15_orders_3 X a0 a1 h)
-- X15_reads RenamedWords$ScriptReader.reads()LRenamedWords$Script;
noncomputable def f_X15_reads (a0 : Nat) (h : HP) : Option ((Nat ⊕ Option Nat) × HP) :=
  (rcv h (some a0) [12]).bind fun b3 =>
  hbx (f_X15_orders_3 b3 1 h) (fun q5 h6 =>
      some (.inl q5, h6)) fun v1 h2 =>
  (rcv h2 (some a0) [12]).bind fun b9 =>
  hb (f_X10_isEnd b9 h2) fun v7 h8 =>
  (rcv h8 (some a0) [12]).bind fun b13 =>
  hbx (f_X10_must b13 v7 1 h8) (fun q15 h16 =>
      some (.inl q15, h16)) fun _ h12 =>
  some (.inr v1, h12)
theorem A_X15_reads {M : hp_M} {G : va_G} {h0 : HP} (X : hp_X M G h0 "RenamedWords$ScriptReader" "reads" cX15_reads 2 (some (.object "RenamedWords$Script")) [] 18 614) (a0 : Nat) (h : HP) : vv M G h0 2 (hp_End M G h0) xR h 0 [(0, LR (some a0))] [] (f_X15_reads a0 h) := by
  unfold f_X15_reads
  refine vv_aload_n (pc := 0) X (kf := 0) (i := 0) rfl 0 rfl dX15_reads_0 ?_
  refine vv_iconst (pc := 1) X dX15_reads_1 ?_
  refine vv_rcv (fun b3 t9 c9 fs9 e4 g9 k9 => ?_)
  cases List.mem_singleton.mp k9
  refine vv_xallR (pc := 2) (rest := []) (by rw [e4]; rfl) (fun r8 k8 e8 => zz_callV X (m_X15_orders_3 (hlM X) _ _ _ _ _ e8) g9 rfl rfl q1874 q1876 qs11 q180 q1877 nh_X15 rfl (by decide) (by decide) (Nat.le_of_ble_eq_true rfl) dX15_reads_2) (fun v1 h2 => ?_) (fun q5 h6 => ?_)
  · refine vv_astore_n (pc := 5) (lv' := [(1, LR v1), (0, LR (some a0))]) X (kf := 1) (i := 1) rfl (by decide) rfl dX15_reads_5 ?_
    refine vv_aload_n (pc := 6) X (kf := 0) (i := 0) rfl 1 rfl dX15_reads_6 ?_
    refine vv_aload_n (pc := 7) X (kf := 0) (i := 0) rfl 1 rfl dX15_reads_7 ?_
    refine vv_rcv (fun b9 t9 c9 fs9 e10 g9 k9 => ?_)
    cases List.mem_singleton.mp k9
    refine vv_callI (pc := 8) (rest := [LR (some a0)]) (by rw [e10]; rfl) (fun r8 k8 e8 => zz_callU X (m_X10_isEnd (hlM X) _ _ _ _ e8) g9 rfl q1897 q1898 (va_Decl.of (X.1.2.2.2.2 _ q1819) (X.1.2.2.2.2 _ q1820)) (by decide) q1819 q1899 q165 q1820 rfl (by decide) (by decide) (Nat.le_of_ble_eq_true rfl) dX15_reads_8) (fun v7 h8 => ?_)
    refine vv_iconst (pc := 11) X dX15_reads_11 ?_
    refine vv_rcv (fun b13 t9 c9 fs9 e14 g9 k9 => ?_)
    cases List.mem_singleton.mp k9
    refine vv_xallV (pc := 12) (rest := []) (by rw [e14]; rfl) (fun r8 k8 e8 => zz_callU X (m_X10_must (hlM X) _ _ _ _ _ _ e8) g9 rfl q1925 q1926 (va_Decl.of (X.1.2.2.2.2 _ q968) (X.1.2.2.2.2 _ q969)) (by decide) q968 q1927 q165 q969 rfl (by decide) (by decide) (Nat.le_of_ble_eq_true rfl) dX15_reads_12) (fun v11 h12 => ?_) (fun q15 h16 => ?_)
    · refine vv_aload_n (pc := 15) X (kf := 1) (i := 1) rfl 0 rfl dX15_reads_15 ?_
      exact vv_aretO X rfl rfl dX15_reads_16
    · exact vvx_out X (by decide) rfl
  · exact vvx_out X (by decide) rfl
theorem m_X15_reads {l : Launch} (hl : l.stackTraces = false) {G : va_G} (a0 : Nat) (h : HP) : ∀ r hf, f_X15_reads a0 h = some (r, hf) → Ct l yX15_reads (ws_ yX15_reads cX15_reads 2 (some (.object "RenamedWords$Script"))) 18 614 G h [.ref a0] (xR r) hf :=
  zz_ofW hl (by decide +kernel) (lv := [(0, LR (some a0))]) (by simp [lv_args, lvL, lvV, zz_rfc, zz_rfs, zz_ci, zz_cr, zz_cj, zz_cf, zz_cd]) (by simp [lg_sl, zz_rfc, zz_ci, zz_cr, zz_cj, zz_cf, zz_cd]) (fun _ X => A_X15_reads X a0 h)
-- J22_isEmpty java/util/ArrayDeque.isEmpty()Z
noncomputable def b_J22_isEmpty_16 (s0 : Int) (h : HP) : Option ((Int) × HP) :=
  rtZ s0 (some (s0, h))
theorem B_J22_isEmpty_16 {M : hp_M} {G : va_G} {h0 : HP} (X : hp_X M G h0 "java/util/ArrayDeque" "isEmpty" cJ22_isEmpty 1 (some .boolean) [] 0 0) (s0 : Int) (h : HP) : vv M G h0 1 (hp_End M G h0) jI h 16 [] [LI s0] (b_J22_isEmpty_16 s0 h) := by
  unfold b_J22_isEmpty_16
  exact vv_iretZ X rfl rfl dJ22_isEmpty_16
noncomputable def f_J22_isEmpty (a0 : Nat) (h : HP) : Option ((Int) × HP) :=
  (rdI h (some a0) [29] 1).bind fun v1 =>
  (rdI h (some a0) [29] 2).bind fun v2 =>
  iEQ v1 v2
    (b_J22_isEmpty_16 1 h)
    (b_J22_isEmpty_16 0 h)
theorem A_J22_isEmpty {M : hp_M} {G : va_G} {h0 : HP} (X : hp_X M G h0 "java/util/ArrayDeque" "isEmpty" cJ22_isEmpty 1 (some .boolean) [] 0 0) (a0 : Nat) (h : HP) : vv M G h0 1 (hp_End M G h0) jI h 0 [(0, LR (some a0))] [] (f_J22_isEmpty a0 h) := by
  unfold f_J22_isEmpty
  refine vv_aload_n (pc := 0) X (kf := 0) (i := 0) rfl 0 rfl dJ22_isEmpty_0 ?_
  refine vv_getI (pc := 1) X (fun _ z => by cases List.mem_singleton.mp z; exact fl_J22_24_29) dJ22_isEmpty_1 (fun v1 => ?_)
  refine vv_aload_n (pc := 4) X (kf := 0) (i := 0) rfl 0 rfl dJ22_isEmpty_4 ?_
  refine vv_getI (pc := 5) X (fun _ z => by cases List.mem_singleton.mp z; exact fl_J22_20_29) dJ22_isEmpty_5 (fun v2 => ?_)
  refine vv_icmp_ne (pc := 8) (tgt := 15) X dJ22_isEmpty_8 rfl ?_ ?_
  · refine vv_iconst (pc := 15) X dJ22_isEmpty_15 ?_
    exact vv_sub [] (by rfl) (B_J22_isEmpty_16 X _ _)
  · refine vv_iconst (pc := 11) X dJ22_isEmpty_11 ?_
    refine vv_goto (pc := 12) (tgt := 16) X dJ22_isEmpty_12 rfl ?_
    exact vv_sub [] (by rfl) (B_J22_isEmpty_16 X _ _)
theorem m_J22_isEmpty {l : Launch} (hl : l.stackTraces = false) {G : va_G} (a0 : Nat) (h : HP) : ∀ r hf, f_J22_isEmpty a0 h = some (r, hf) → Ct l yJ22_isEmpty (ws_ yJ22_isEmpty cJ22_isEmpty 1 (some .boolean)) 0 0 G h [.ref a0] (jI r) hf :=
  zz_ofW hl (by decide +kernel) (lv := [(0, LR (some a0))]) (by simp [lv_args, lvL, lvV, zz_rfc, zz_rfs, zz_ci, zz_cr, zz_cj, zz_cf, zz_cd]) (by simp [lg_sl, zz_rfc, zz_ci, zz_cr, zz_cj, zz_cf, zz_cd]) (fun _ X => A_J22_isEmpty X a0 h)
-- X5_be RenamedWords$Text.be(LRenamedWords$Text;)V
noncomputable def f_X5_be (a0 : Nat) (a1 : Option Nat) (h : HP) : Option ((Unit) × HP) :=
  (rdR h a1 [3] 0).bind fun v1 =>
  (rdR h (some a0) [3] 0).bind fun v2 =>
  (rdI h a1 [3] 3).bind fun v3 =>
  (acpI h .int v1 0 v2 0 v3).bind fun h4 =>
  (rdI h4 a1 [3] 3).bind fun v5 =>
  (wrI h4 (some a0) [3] 3 v5).bind fun h6 =>
  (wrI h6 (some a0) [3] 4 (-1)).bind fun h7 =>
  some ((), h7)
theorem A_X5_be {M : hp_M} {G : va_G} {h0 : HP} (X : hp_X M G h0 "RenamedWords$Text" "be" cX5_be 2 none [] 1 100) (a0 : Nat) (a1 : Option Nat) (h : HP) : vv M G h0 2 (hp_End M G h0) jV h 0 [(0, LR (some a0)), (1, LR a1)] [] (f_X5_be a0 a1 h) := by
  unfold f_X5_be
  refine vv_aload_n (pc := 0) X (kf := 1) (i := 1) rfl 1 rfl dX5_be_0 ?_
  refine vv_getR (pc := 1) X (fun _ z => by cases List.mem_singleton.mp z; exact fl_X5_9_3) dX5_be_1 (fun v1 => ?_)
  refine vv_iconst (pc := 4) X dX5_be_4 ?_
  refine vv_aload_n (pc := 5) X (kf := 0) (i := 0) rfl 0 rfl dX5_be_5 ?_
  refine vv_getR (pc := 6) X (fun _ z => by cases List.mem_singleton.mp z; exact fl_X5_9_3) dX5_be_6 (fun v2 => ?_)
  refine vv_iconst (pc := 9) X dX5_be_9 ?_
  refine vv_aload_n (pc := 10) X (kf := 1) (i := 1) rfl 1 rfl dX5_be_10 ?_
  refine vv_getI (pc := 11) X (fun _ z => by cases List.mem_singleton.mp z; exact fl_X5_25_3) dX5_be_11 (fun v3 => ?_)
  refine vv_arraycopy (pc := 14) X q2141 q396 q395 q151 (by decide) (by decide) (Nat.le_of_ble_eq_true rfl) dX5_be_14 (fun h4 => ?_)
  refine vv_aload_n (pc := 17) X (kf := 0) (i := 0) rfl 0 rfl dX5_be_17 ?_
  refine vv_aload_n (pc := 18) X (kf := 1) (i := 1) rfl 1 rfl dX5_be_18 ?_
  refine vv_getI (pc := 19) X (fun _ z => by cases List.mem_singleton.mp z; exact fl_X5_25_3) dX5_be_19 (fun v5 => ?_)
  refine vv_putI (pc := 22) (fin := false) X (fun _ z => by cases List.mem_singleton.mp z; exact fl_X5_25_3) (fun z => nomatch z) (fun z => nomatch z) dX5_be_22 (fun h6 => ?_)
  refine vv_aload_n (pc := 25) X (kf := 0) (i := 0) rfl 0 rfl dX5_be_25 ?_
  refine vv_iconst (pc := 26) X dX5_be_26 ?_
  refine vv_putI (pc := 27) (fin := false) X (fun _ z => by cases List.mem_singleton.mp z; exact fl_X5_21_3) (fun z => nomatch z) (fun z => nomatch z) dX5_be_27 (fun h7 => ?_)
  exact vv_vreturn X rfl rfl dX5_be_30
theorem m_X5_be {l : Launch} (hl : l.stackTraces = false) {G : va_G} (a0 : Nat) (a1 : Option Nat) (h : HP) : ∀ r hf, f_X5_be a0 a1 h = some (r, hf) → Ct l yX5_be (ws_ yX5_be cX5_be 2 none) 1 100 G h [.ref a0, va_rf a1] (jV r) hf :=
  zz_ofW hl (by decide +kernel) (lv := [(0, LR (some a0)), (1, LR a1)]) (by simp [lv_args, lvL, lvV, zz_rfc, zz_rfs, zz_ci, zz_cr, zz_cj, zz_cf, zz_cd]) (by simp [lg_sl, zz_rfc, zz_ci, zz_cr, zz_cj, zz_cf, zz_cd]) (fun _ X => A_X5_be X a0 a1 h)
-- X6_clear RenamedWords$Marks.clear()V
noncomputable def f_X6_clear (a0 : Nat) (h : HP) : Option ((Unit) × HP) :=
  (wrR h (some a0) [4] 0 none).bind fun h1 =>
  (wrR h1 (some a0) [4] 1 none).bind fun h2 =>
  (wrI h2 (some a0) [4] 2 0).bind fun h3 =>
  some ((), h3)
theorem A_X6_clear {M : hp_M} {G : va_G} {h0 : HP} (X : hp_X M G h0 "RenamedWords$Marks" "clear" cX6_clear 1 none [] 0 0) (a0 : Nat) (h : HP) : vv M G h0 1 (hp_End M G h0) jV h 0 [(0, LR (some a0))] [] (f_X6_clear a0 h) := by
  unfold f_X6_clear
  refine vv_aload_n (pc := 0) X (kf := 0) (i := 0) rfl 0 rfl dX6_clear_0 ?_
  refine vv_null (pc := 1) X dX6_clear_1 ?_
  refine vv_putR (pc := 2) (ty9 := (.object "RenamedWords$Mark")) (fin := false) X (fun _ z => by cases List.mem_singleton.mp z; exact fl_X6_7_4) (fun z => nomatch z) (fun z => nomatch z) (by decide +kernel) rfl dX6_clear_2 (fun h1 => ?_)
  refine vv_aload_n (pc := 5) X (kf := 0) (i := 0) rfl 0 rfl dX6_clear_5 ?_
  refine vv_null (pc := 6) X dX6_clear_6 ?_
  refine vv_putR (pc := 7) (ty9 := (.object "RenamedWords$Mark")) (fin := false) X (fun _ z => by cases List.mem_singleton.mp z; exact fl_X6_13_4) (fun z => nomatch z) (fun z => nomatch z) (by decide +kernel) rfl dX6_clear_7 (fun h2 => ?_)
  refine vv_aload_n (pc := 10) X (kf := 0) (i := 0) rfl 0 rfl dX6_clear_10 ?_
  refine vv_iconst (pc := 11) X dX6_clear_11 ?_
  refine vv_putI (pc := 12) (fin := false) X (fun _ z => by cases List.mem_singleton.mp z; exact fl_X6_21_4) (fun z => nomatch z) (fun z => nomatch z) dX6_clear_12 (fun h3 => ?_)
  exact vv_vreturn X rfl rfl dX6_clear_15
theorem m_X6_clear {l : Launch} (hl : l.stackTraces = false) {G : va_G} (a0 : Nat) (h : HP) : ∀ r hf, f_X6_clear a0 h = some (r, hf) → Ct l yX6_clear (ws_ yX6_clear cX6_clear 1 none) 0 0 G h [.ref a0] (jV r) hf :=
  zz_ofW hl (by decide +kernel) (lv := [(0, LR (some a0))]) (by simp [lv_args, lvL, lvV, zz_rfc, zz_rfs, zz_ci, zz_cr, zz_cj, zz_cf, zz_cd]) (by simp [lg_sl, zz_rfc, zz_ci, zz_cr, zz_cj, zz_cf, zz_cd]) (fun _ X => A_X6_clear X a0 h)
-- X26_init RenamedWords$Marks$1.<init>(LRenamedWords$Marks;)V
noncomputable def f_X26_init (a0 : Nat) (a1 : Option Nat) (h : HP) : Option ((Unit) × HP) :=
  (wrR h (some a0) [21] 3 a1).bind fun h1 =>
  (rdR h1 (some a0) [21] 3).bind fun v2 =>
  (rdR h1 v2 [4] 0).bind fun v3 =>
  (wrR h1 (some a0) [21] 2 v3).bind fun h4 =>
  some ((), h4)
theorem A_X26_init {M : hp_M} {G : va_G} {h0 : HP} (X : hp_X M G h0 "RenamedWords$Marks$1" "<init>" cX26_init 2 none [] 1 28) (a0 : Nat) (a1 : Option Nat) (h : HP) : vv M G h0 2 (hp_End M G h0) jV h 0 [(0, LR (some a0)), (1, LR a1)] [] (f_X26_init a0 a1 h) := by
  unfold f_X26_init
  refine vv_aload_n (pc := 0) X (kf := 0) (i := 0) rfl 0 rfl dX26_init_0 ?_
  refine vv_aload_n (pc := 1) X (kf := 1) (i := 1) rfl 1 rfl dX26_init_1 ?_
  refine vv_putR (pc := 2) (ty9 := (.object "RenamedWords$Marks")) (fin := true) X (fun _ z => by cases List.mem_singleton.mp z; exact fl_X26_1_21) (fun _ => rfl) (fun _ => (fun _ z => by cases List.mem_singleton.mp z; exact ⟨_, rfl, rfl⟩)) (by decide +kernel) rfl dX26_init_2 (fun h1 => ?_)
  refine vv_aload_n (pc := 5) X (kf := 0) (i := 0) rfl 0 rfl dX26_init_5 ?_
  refine vv_objInit (pc := 6) X rfl q2156 q212 q213 (by decide) (by decide) (Nat.le_of_ble_eq_true rfl) dX26_init_6 ?_
  refine vv_aload_n (pc := 9) X (kf := 0) (i := 0) rfl 0 rfl dX26_init_9 ?_
  refine vv_aload_n (pc := 10) X (kf := 0) (i := 0) rfl 0 rfl dX26_init_10 ?_
  refine vv_getR (pc := 11) X (fun _ z => by cases List.mem_singleton.mp z; exact fl_X26_1_21) dX26_init_11 (fun v2 => ?_)
  refine vv_getR (pc := 14) X (fun _ z => by cases List.mem_singleton.mp z; exact fl_X26_13_4) dX26_init_14 (fun v3 => ?_)
  refine vv_putR (pc := 17) (ty9 := (.object "RenamedWords$Mark")) (fin := false) X (fun _ z => by cases List.mem_singleton.mp z; exact fl_X26_19_21) (fun z => nomatch z) (fun z => nomatch z) (by decide +kernel) rfl dX26_init_17 (fun h4 => ?_)
  exact vv_vreturn X rfl rfl dX26_init_20
theorem m_X26_init {l : Launch} (hl : l.stackTraces = false) {G : va_G} (a0 : Nat) (a1 : Option Nat) (h : HP) : ∀ r hf, f_X26_init a0 a1 h = some (r, hf) → Ct l yX26_init (ws_ yX26_init cX26_init 2 none) 1 28 G h [.ref a0, va_rf a1] (jV r) hf :=
  zz_ofW hl (by decide +kernel) (lv := [(0, LR (some a0)), (1, LR a1)]) (by simp [lv_args, lvL, lvV, zz_rfc, zz_rfs, zz_ci, zz_cr, zz_cj, zz_cf, zz_cd]) (by simp [lg_sl, zz_rfc, zz_ci, zz_cr, zz_cj, zz_cf, zz_cd]) (fun _ X => A_X26_init X a0 a1 h)
-- X6_iterator RenamedWords$Marks.iterator()Ljava/util/Iterator;
noncomputable def f_X6_iterator (a0 : Nat) (h : HP) : Option ((Option Nat) × HP) :=
  hb (nwO h (hp_n h + 2) 21 [.inr (.inl none), .inr (.inl none), .inr (.inl none), .inr (.inl none)] 4) fun v1 h2 =>
  (v1).bind fun b5 =>
  hb (f_X26_init b5 (some a0) h2) fun _ h4 =>
  some (v1, h4)
theorem A_X6_iterator {M : hp_M} {G : va_G} {h0 : HP} (X : hp_X M G h0 "RenamedWords$Marks" "iterator" cX6_iterator 1 (some (.object "java/util/Iterator")) [] 2 57) (a0 : Nat) (h : HP) : vv M G h0 1 (hp_End M G h0) jR h 0 [(0, LR (some a0))] [] (f_X6_iterator a0 h) := by
  unfold f_X6_iterator
  refine vv_new (pc := 0) X tyX26 rfl in_X26 tyX26_ok q2151 q2152 q191 ndX26 (by decide) dX6_iterator_0 (fun v1 h2 => ?_)
  refine vv_dup (pc := 3) X rfl dX6_iterator_3 ?_
  refine vv_aload_n (pc := 4) X (kf := 0) (i := 0) rfl 0 rfl dX6_iterator_4 ?_
  refine vv_bnd (fun b5 e6 => ?_)
  refine vv_callV (pc := 5) (rest := [LR v1]) (by rw [e6]; rfl) (fun r8 k8 e8 => zz_callI X (m_X26_init (hlM X) _ _ _ _ _ e8) q2153 q2154 q191 q2155 rfl nh_X26 rfl (by decide) (by decide) (Nat.le_of_ble_eq_true rfl) dX6_iterator_5) (fun v3 h4 => ?_)
  exact vv_aretO X rfl rfl dX6_iterator_8
theorem m_X6_iterator {l : Launch} (hl : l.stackTraces = false) {G : va_G} (a0 : Nat) (h : HP) : ∀ r hf, f_X6_iterator a0 h = some (r, hf) → Ct l yX6_iterator (ws_ yX6_iterator cX6_iterator 1 (some (.object "java/util/Iterator"))) 2 57 G h [.ref a0] (jR r) hf :=
  zz_ofW hl (by decide +kernel) (lv := [(0, LR (some a0))]) (by simp [lv_args, lvL, lvV, zz_rfc, zz_rfs, zz_ci, zz_cr, zz_cj, zz_cf, zz_cd]) (by simp [lg_sl, zz_rfc, zz_ci, zz_cr, zz_cj, zz_cf, zz_cd]) (fun _ X => A_X6_iterator X a0 h)
-- X26_hasNext RenamedWords$Marks$1.hasNext()Z
noncomputable def b_X26_hasNext_12 (s0 : Int) (h : HP) : Option ((Int) × HP) :=
  rtZ s0 (some (s0, h))
theorem B_X26_hasNext_12 {M : hp_M} {G : va_G} {h0 : HP} (X : hp_X M G h0 "RenamedWords$Marks$1" "hasNext" cX26_hasNext 1 (some .boolean) [] 0 0) (s0 : Int) (h : HP) : vv M G h0 1 (hp_End M G h0) jI h 12 [] [LI s0] (b_X26_hasNext_12 s0 h) := by
  unfold b_X26_hasNext_12
  exact vv_iretZ X rfl rfl dX26_hasNext_12
noncomputable def f_X26_hasNext (a0 : Nat) (h : HP) : Option ((Int) × HP) :=
  (rdR h (some a0) [21] 2).bind fun v1 =>
  rNU v1
    (b_X26_hasNext_12 0 h)
    (b_X26_hasNext_12 1 h)
theorem A_X26_hasNext {M : hp_M} {G : va_G} {h0 : HP} (X : hp_X M G h0 "RenamedWords$Marks$1" "hasNext" cX26_hasNext 1 (some .boolean) [] 0 0) (a0 : Nat) (h : HP) : vv M G h0 1 (hp_End M G h0) jI h 0 [(0, LR (some a0))] [] (f_X26_hasNext a0 h) := by
  unfold f_X26_hasNext
  refine vv_aload_n (pc := 0) X (kf := 0) (i := 0) rfl 0 rfl dX26_hasNext_0 ?_
  refine vv_getR (pc := 1) X (fun _ z => by cases List.mem_singleton.mp z; exact fl_X26_19_21) dX26_hasNext_1 (fun v1 => ?_)
  refine vv_ifnull (pc := 4) (tgt := 11) X dX26_hasNext_4 rfl ?_ ?_
  · refine vv_iconst (pc := 11) X dX26_hasNext_11 ?_
    exact vv_sub [] (by rfl) (B_X26_hasNext_12 X _ _)
  · refine vv_iconst (pc := 7) X dX26_hasNext_7 ?_
    refine vv_goto (pc := 8) (tgt := 12) X dX26_hasNext_8 rfl ?_
    exact vv_sub [] (by rfl) (B_X26_hasNext_12 X _ _)
theorem m_X26_hasNext {l : Launch} (hl : l.stackTraces = false) {G : va_G} (a0 : Nat) (h : HP) : ∀ r hf, f_X26_hasNext a0 h = some (r, hf) → Ct l yX26_hasNext (ws_ yX26_hasNext cX26_hasNext 1 (some .boolean)) 0 0 G h [.ref a0] (jI r) hf :=
  zz_ofW hl (by decide +kernel) (lv := [(0, LR (some a0))]) (by simp [lv_args, lvL, lvV, zz_rfc, zz_rfs, zz_ci, zz_cr, zz_cj, zz_cf, zz_cd]) (by simp [lg_sl, zz_rfc, zz_ci, zz_cr, zz_cj, zz_cf, zz_cd]) (fun _ X => A_X26_hasNext X a0 h)
