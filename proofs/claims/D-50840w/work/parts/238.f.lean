/-! STAGE 1c: functions and contracts (printed by gen/mkfuncs.py). -/
set_option maxRecDepth 100000
set_option linter.unusedVariables false
-- X1_candidate RenamedWords.candidate(II)I
noncomputable def c_X1_candidate_46 (r46 : Int → Option Nat → Int → Int → HP → Option ((Nat ⊕ Int) × HP)) (x2 : Int) (x4 : Option Nat) (x5 : Int) (x6 : Int) (h : HP) : Option ((Nat ⊕ Int) × HP) :=
  iLE x2 x6
    (some (.inr x5, h))
    ((rcv h x4 [33]).bind fun b24 =>
    hb (f_J40_nextSetBit b24 (x5 + 1) h) fun v22 h23 =>
    r46 x2 x4 v22 (x6 + 1) h23)
noncomputable def b_X1_candidate_46 : Int → Option Nat → Int → Int → HP → Option ((Nat ⊕ Int) × HP) := fx (fun _ _ _ _ _ => none) (c_X1_candidate_46) FU
theorem C_X1_candidate_46 {M : hp_M} {G : va_G} {h0 : HP} (X : hp_X M G h0 "RenamedWords" "candidate" cX1_candidate 7 (some .int) [] 8 253) (r46 : Int → Option Nat → Int → Int → HP → Option ((Nat ⊕ Int) × HP)) (hr46 : ∀ (y2 : Int) (y4 : Option Nat) (y5 : Int) (y6 : Int) (h : HP), vv M G h0 7 (hp_End M G h0) xI h 46 [(2, LI y2), (4, LR y4), (5, LI y5), (6, LI y6)] [] (r46 y2 y4 y5 y6 h)) (x2 : Int) (x4 : Option Nat) (x5 : Int) (x6 : Int) (h : HP) : vv M G h0 7 (hp_End M G h0) xI h 46 [(2, LI x2), (4, LR x4), (5, LI x5), (6, LI x6)] [] (c_X1_candidate_46 r46 x2 x4 x5 x6 h) := by
  unfold c_X1_candidate_46
  refine vv_iload (pc := 46) X 3 rfl dX1_candidate_46 ?_
  refine vv_iload_n (pc := 48) X (kf := 2) (i := 2) rfl 0 rfl dX1_candidate_48 ?_
  refine vv_icmp_ge (pc := 49) (tgt := 69) X dX1_candidate_49 rfl ?_ ?_
  · refine vv_iload (pc := 69) X 2 rfl dX1_candidate_69 ?_
    exact vv_iretI X rfl rfl dX1_candidate_71
  · refine vv_aload (pc := 52) X 1 rfl dX1_candidate_52 ?_
    refine vv_iload (pc := 54) X 2 rfl dX1_candidate_54 ?_
    refine vv_iconst (pc := 56) X dX1_candidate_56 ?_
    refine vv_iadd (pc := 57) X dX1_candidate_57 ?_
    refine vv_rcv (fun b24 t9 c9 fs9 e25 g9 k9 => ?_)
    cases List.mem_singleton.mp k9
    refine vv_callI (pc := 58) (rest := []) (by rw [e25]; rfl) (fun r8 k8 e8 => zz_callV X (m_J40_nextSetBit (hlM X) _ _ _ _ _ e8) g9 rfl rfl q3275 q3276 q3277 q204 q3278 nh_J40 rfl (by decide) (by decide) (Nat.le_of_ble_eq_true rfl) dX1_candidate_58) (fun v22 h23 => ?_)
    refine vv_istore (pc := 61) (lv' := [(5, LI v22), (2, LI x2), (4, LR x4), (6, LI x6)]) X (by decide) rfl dX1_candidate_61 ?_
    refine vv_iinc (pc := 63) (lv' := [(6, LI (x6 + 1)), (5, LI v22), (2, LI x2), (4, LR x4)]) X 3 rfl (by decide) rfl dX1_candidate_63 ?_
    refine vv_goto (pc := 66) (tgt := 46) X dX1_candidate_66 rfl ?_
    exact vv_sub [2, 3, 1, 0] (by rfl) (hr46 _ _ _ _ _)
theorem B_X1_candidate_46 {M : hp_M} {G : va_G} {h0 : HP} (X : hp_X M G h0 "RenamedWords" "candidate" cX1_candidate 7 (some .int) [] 8 253) : ∀ (x2 : Int) (x4 : Option Nat) (x5 : Int) (x6 : Int) (h : HP), vv M G h0 7 (hp_End M G h0) xI h 46 [(2, LI x2), (4, LR x4), (5, LI x5), (6, LI x6)] [] (b_X1_candidate_46 x2 x4 x5 x6 h) := by
  unfold b_X1_candidate_46
  generalize FU = n
  induction n with
  | zero => intro x2 x4 x5 x6 h; exact vv_none
  | succ n ih => exact C_X1_candidate_46 X _ ih
noncomputable def f_X1_candidate (a0 : Nat) (a1 : Int) (a2 : Int) (h : HP) : Option ((Nat ⊕ Int) × HP) :=
  (rcv h (some a0) [0]).bind fun b3 =>
  hbx (f_X1_patternAt b3 a1 h) (fun q5 h6 =>
      some (.inl q5, h6)) fun v1 h2 =>
  (rdR h2 (some a0) [0] 0).bind fun v7 =>
  (rcv h2 v7 [1]).bind fun b10 =>
  hb (f_X2_candidates b10 a1 h2) fun v8 h9 =>
  (rcv h9 v8 [33]).bind fun b14 =>
  hb (f_J40_cardinality b14 h9) fun v12 h13 =>
  hb (f_X1_in (iL a2) 0 (iL (v12 - 1)) h13) fun v16 h17 =>
  iEQ v16 0
    (some (.inr (-1), h17))
    ((rcv h17 v8 [33]).bind fun b20 =>
    hb (f_J40_nextSetBit b20 0 h17) fun v18 h19 =>
    b_X1_candidate_46 a2 v8 v18 0 h19)
theorem A_X1_candidate {M : hp_M} {G : va_G} {h0 : HP} (X : hp_X M G h0 "RenamedWords" "candidate" cX1_candidate 7 (some .int) [] 8 253) (a0 : Nat) (a1 : Int) (a2 : Int) (h : HP) : vv M G h0 7 (hp_End M G h0) xI h 0 [(0, LR (some a0)), (1, LI a1), (2, LI a2)] [] (f_X1_candidate a0 a1 a2 h) := by
  unfold f_X1_candidate
  refine vv_aload_n (pc := 0) X (kf := 0) (i := 0) rfl 0 rfl dX1_candidate_0 ?_
  refine vv_iload_n (pc := 1) X (kf := 1) (i := 1) rfl 1 rfl dX1_candidate_1 ?_
  refine vv_rcv (fun b3 t9 c9 fs9 e4 g9 k9 => ?_)
  cases List.mem_singleton.mp k9
  refine vv_xallR (pc := 2) (rest := []) (by rw [e4]; rfl) (fun r8 k8 e8 => zz_callV X (m_X1_patternAt (hlM X) _ _ _ _ _ e8) g9 rfl rfl q3102 q3104 qs47 q132 q3105 nh_X1 rfl (by decide) (by decide) (Nat.le_of_ble_eq_true rfl) dX1_candidate_2) (fun v1 h2 => ?_) (fun q5 h6 => ?_)
  · refine vv_astore_n (pc := 5) (lv' := [(3, LR v1), (0, LR (some a0)), (1, LI a1), (2, LI a2)]) X (kf := 3) (i := 3) rfl (by decide) rfl dX1_candidate_5 ?_
    refine vv_aload_n (pc := 6) X (kf := 0) (i := 0) rfl 1 rfl dX1_candidate_6 ?_
    refine vv_getR (pc := 7) X (fun _ z => by cases List.mem_singleton.mp z; exact fl_X1_35_0) dX1_candidate_7 (fun v7 => ?_)
    refine vv_iload_n (pc := 10) X (kf := 1) (i := 1) rfl 2 rfl dX1_candidate_10 ?_
    refine vv_rcv (fun b10 t9 c9 fs9 e11 g9 k9 => ?_)
    cases List.mem_singleton.mp k9
    refine vv_callR (pc := 11) (rest := []) (by rw [e11]; rfl) (fun r8 k8 e8 => zz_callV X (m_X2_candidates (hlM X) _ _ _ _ _ e8) g9 rfl rfl q3125 q3126 q3127 q133 q3128 nh_X2 rfl (by decide) (by decide) (Nat.le_of_ble_eq_true rfl) dX1_candidate_11) (fun v8 h9 => ?_)
    refine vv_astore (pc := 14) (lv' := [(4, LR v8), (3, LR v1), (0, LR (some a0)), (1, LI a1), (2, LI a2)]) X (by decide) rfl dX1_candidate_14 ?_
    refine vv_iload_n (pc := 16) X (kf := 2) (i := 2) rfl 4 rfl dX1_candidate_16 ?_
    refine vv_i2l (pc := 17) X dX1_candidate_17 ?_
    refine vv_lconst (pc := 18) (v := 0) X (by decide) dX1_candidate_18 ?_
    refine vv_aload (pc := 19) X 0 rfl dX1_candidate_19 ?_
    refine vv_rcv (fun b14 t9 c9 fs9 e15 g9 k9 => ?_)
    cases List.mem_singleton.mp k9
    refine vv_callI (pc := 21) (rest := [LJ 0, LJ (iL a2)]) (by rw [e15]; rfl) (fun r8 k8 e8 => zz_callV X (m_J40_cardinality (hlM X) _ _ _ _ e8) g9 rfl rfl q2924 q2925 q2926 q204 q2927 nh_J40 rfl (by decide) (by decide) (Nat.le_of_ble_eq_true rfl) dX1_candidate_21) (fun v12 h13 => ?_)
    refine vv_iconst (pc := 24) X dX1_candidate_24 ?_
    refine vv_isub (pc := 25) X dX1_candidate_25 ?_
    refine vv_i2l (pc := 26) X dX1_candidate_26 ?_
    refine vv_callI (pc := 27) (rest := []) (by rfl) (fun r8 k8 e8 => zz_callS X (m_X1_in (hlM X) _ _ _ _ _ _ e8) q2984 q873 q132 q874 nh_X1 rfl (by decide) (by decide) (Nat.le_of_ble_eq_true rfl) dX1_candidate_27) (fun v16 h17 => ?_)
    refine vv_if_ne (pc := 30) (tgt := 35) X dX1_candidate_30 rfl ?_ ?_
    · refine vv_aload (pc := 35) X 0 rfl dX1_candidate_35 ?_
      refine vv_iconst (pc := 37) X dX1_candidate_37 ?_
      refine vv_rcv (fun b20 t9 c9 fs9 e21 g9 k9 => ?_)
      cases List.mem_singleton.mp k9
      refine vv_callI (pc := 38) (rest := []) (by rw [e21]; rfl) (fun r8 k8 e8 => zz_callV X (m_J40_nextSetBit (hlM X) _ _ _ _ _ e8) g9 rfl rfl q3275 q3276 q3277 q204 q3278 nh_J40 rfl (by decide) (by decide) (Nat.le_of_ble_eq_true rfl) dX1_candidate_38) (fun v18 h19 => ?_)
      refine vv_istore (pc := 41) (lv' := [(5, LI v18), (4, LR v8), (3, LR v1), (0, LR (some a0)), (1, LI a1), (2, LI a2)]) X (by decide) rfl dX1_candidate_41 ?_
      refine vv_iconst (pc := 43) X dX1_candidate_43 ?_
      refine vv_istore (pc := 44) (lv' := [(6, LI 0), (5, LI v18), (4, LR v8), (3, LR v1), (0, LR (some a0)), (1, LI a1), (2, LI a2)]) X (by decide) rfl dX1_candidate_44 ?_
      exact vv_sub [6, 2, 1, 0] (by rfl) (B_X1_candidate_46 X _ _ _ _ _)
    · refine vv_iconst (pc := 33) X dX1_candidate_33 ?_
      exact vv_iretI X rfl rfl dX1_candidate_34
  · exact vvx_out X (by decide) rfl
theorem m_X1_candidate {l : Launch} (hl : l.stackTraces = false) {G : va_G} (a0 : Nat) (a1 : Int) (a2 : Int) (h : HP) : ∀ r hf, f_X1_candidate a0 a1 a2 h = some (r, hf) → Ct l yX1_candidate (ws_ yX1_candidate cX1_candidate 7 (some .int)) 8 253 G h [.ref a0, .int (iI a1), .int (iI a2)] (xI r) hf :=
  zz_ofW hl (by decide +kernel) (lv := [(0, LR (some a0)), (1, LI a1), (2, LI a2)]) (by simp [lv_args, lvL, lvV, zz_rfc, zz_rfs, zz_ci, zz_cr, zz_cj, zz_cf, zz_cd]) (by simp [lg_sl, zz_rfc, zz_ci, zz_cr, zz_cj, zz_cf, zz_cd]) (fun _ X => A_X1_candidate X a0 a1 a2 h)
-- X0_candidate RenamedWordsLaw.candidate(LRenamedWords;II[J)I
noncomputable def b_X0_candidate_13 (s0 : Option Nat) (h : HP) : Option ((Int) × HP) :=
  some (1, h)
theorem B_X0_candidate_13 {M : hp_M} {G : va_G} {h0 : HP} (X : hp_X M G h0 "RenamedWordsLaw" "candidate" cX0_candidate 5 (some .int) (tableOf [(0, 10, 13, 18)]) 9 287) (s0 : Option Nat) (h : HP) : vv M G h0 5 (hp_End M G h0) jI h 13 [] [LR s0] (b_X0_candidate_13 s0 h) := by
  unfold b_X0_candidate_13
  refine vv_astore (pc := 13) (lv' := [(4, LR s0)]) X (by decide) rfl dX0_candidate_13 ?_
  refine vv_iconst (pc := 15) X dX0_candidate_15 ?_
  exact vv_iretI X rfl rfl dX0_candidate_16
noncomputable def f_X0_candidate (a1 : Option Nat) (a2 : Int) (a3 : Int) (a4 : Option Nat) (h : HP) : Option ((Int) × HP) :=
  (rcv h a1 [0]).bind fun b3 =>
  hbx (f_X1_candidate b3 a2 a3 h) (fun q5 h6 =>
      (clsOf h6 q5).bind fun c7 =>
      if c7 = 35 then
        b_X0_candidate_13 (some q5) h6
      else
        none) fun v1 h2 =>
  (astJ h2 a4 0 (iL v1)).bind fun h8 =>
  some (0, h8)
theorem A_X0_candidate {M : hp_M} {G : va_G} {h0 : HP} (X : hp_X M G h0 "RenamedWordsLaw" "candidate" cX0_candidate 5 (some .int) (tableOf [(0, 10, 13, 18)]) 9 287) (a1 : Option Nat) (a2 : Int) (a3 : Int) (a4 : Option Nat) (h : HP) : vv M G h0 5 (hp_End M G h0) jI h 0 [(0, LR a1), (1, LI a2), (2, LI a3), (3, LR a4)] [] (f_X0_candidate a1 a2 a3 a4 h) := by
  unfold f_X0_candidate
  refine vv_aload_n (pc := 0) X (kf := 3) (i := 3) rfl 3 rfl dX0_candidate_0 ?_
  refine vv_iconst (pc := 1) X dX0_candidate_1 ?_
  refine vv_aload_n (pc := 2) X (kf := 0) (i := 0) rfl 0 rfl dX0_candidate_2 ?_
  refine vv_iload_n (pc := 3) X (kf := 1) (i := 1) rfl 1 rfl dX0_candidate_3 ?_
  refine vv_iload_n (pc := 4) X (kf := 2) (i := 2) rfl 2 rfl dX0_candidate_4 ?_
  refine vv_rcv (fun b3 t9 c9 fs9 e4 g9 k9 => ?_)
  cases List.mem_singleton.mp k9
  refine vv_xallI (pc := 5) (rest := [LI 0, LR a4]) (by rw [e4]; rfl) (fun r8 k8 e8 => zz_callV X (m_X1_candidate (hlM X) _ _ _ _ _ _ e8) g9 rfl rfl q3271 q3272 q3273 q132 q3274 nh_X1 rfl (by decide) (by decide) (Nat.le_of_ble_eq_true rfl) dX0_candidate_5) (fun v1 h2 => ?_) (fun q5 h6 => ?_)
  · refine vv_i2l (pc := 8) X dX0_candidate_8 ?_
    refine vv_lastore (pc := 9) X dX0_candidate_9 (fun h8 => ?_)
    refine vv_goto (pc := 10) (tgt := 17) X dX0_candidate_10 rfl ?_
    refine vv_iconst (pc := 17) X dX0_candidate_17 ?_
    exact vv_iretI X rfl rfl dX0_candidate_18
  · refine vvx_cls (fun _ c7 _ g9 => ?_)
    refine vvx_if (fun e9 => ?_) (fun _ => ?_)
    · subst e9
      refine vvx_catch X g9 rfl [] ⟨0, 10, 13, 18⟩ [] rfl (fun z hz => nomatch hz) rfl (by decide) q3041 q2274 ?_
      exact vv_sub [] (by rfl) (B_X0_candidate_13 X _ _)
    · exact vvx_none
theorem m_X0_candidate {l : Launch} (hl : l.stackTraces = false) {G : va_G} (a1 : Option Nat) (a2 : Int) (a3 : Int) (a4 : Option Nat) (h : HP) : ∀ r hf, f_X0_candidate a1 a2 a3 a4 h = some (r, hf) → Ct l yX0_candidate (wsW_ yX0_candidate cX0_candidate 5 (some .int) [(0, 10, 13, 18)]) 9 287 G h [va_rf a1, .int (iI a2), .int (iI a3), va_rf a4] (jI r) hf :=
  zz_ofWH hl (by decide +kernel) (lv := [(0, LR a1), (1, LI a2), (2, LI a3), (3, LR a4)]) (by simp [lv_args, lvL, lvV, zz_rfc, zz_rfs, zz_ci, zz_cr, zz_cj, zz_cf, zz_cd]) (by simp [lg_sl, zz_rfc, zz_ci, zz_cr, zz_cj, zz_cf, zz_cd]) (fun _ X => A_X0_candidate X a1 a2 a3 a4 h)
-- X9_candidate RenamedWordsModel.candidate(II)I
noncomputable def b_X9_candidate_24 (s0 : Int) (h : HP) : Option ((Int) × HP) :=
  some (s0, h)
theorem B_X9_candidate_24 {M : hp_M} {G : va_G} {h0 : HP} (X : hp_X M G h0 "RenamedWordsModel" "candidate" cX9_candidate 3 (some .int) [] 7 216) (s0 : Int) (h : HP) : vv M G h0 3 (hp_End M G h0) jI h 24 [] [LI s0] (b_X9_candidate_24 s0 h) := by
  unfold b_X9_candidate_24
  exact vv_iretI X rfl rfl dX9_candidate_24
noncomputable def f_X9_candidate (a0 : Nat) (a1 : Int) (a2 : Int) (h : HP) : Option ((Int) × HP) :=
  (wrI h (some a0) [7] 7 0).bind fun h1 =>
  (rcv h1 (some a0) [7]).bind fun b4 =>
  hb (f_X9_noPattern b4 a1 h1) fun v2 h3 =>
  iEQ v2 0
    ((rcv h3 (some a0) [7]).bind fun b8 =>
    hb (f_X9_nth b8 a1 a2 0 h3) fun v6 h7 =>
    b_X9_candidate_24 v6 h7)
    (b_X9_candidate_24 0 h3)
theorem A_X9_candidate {M : hp_M} {G : va_G} {h0 : HP} (X : hp_X M G h0 "RenamedWordsModel" "candidate" cX9_candidate 3 (some .int) [] 7 216) (a0 : Nat) (a1 : Int) (a2 : Int) (h : HP) : vv M G h0 3 (hp_End M G h0) jI h 0 [(0, LR (some a0)), (1, LI a1), (2, LI a2)] [] (f_X9_candidate a0 a1 a2 h) := by
  unfold f_X9_candidate
  refine vv_aload_n (pc := 0) X (kf := 0) (i := 0) rfl 0 rfl dX9_candidate_0 ?_
  refine vv_iconst (pc := 1) X dX9_candidate_1 ?_
  refine vv_putI (pc := 2) (fin := false) X (fun _ z => by cases List.mem_singleton.mp z; exact fl_X9_69_7) (fun z => nomatch z) (fun z => nomatch z) dX9_candidate_2 (fun h1 => ?_)
  refine vv_aload_n (pc := 5) X (kf := 0) (i := 0) rfl 0 rfl dX9_candidate_5 ?_
  refine vv_iload_n (pc := 6) X (kf := 1) (i := 1) rfl 1 rfl dX9_candidate_6 ?_
  refine vv_rcv (fun b4 t9 c9 fs9 e5 g9 k9 => ?_)
  cases List.mem_singleton.mp k9
  refine vv_callI (pc := 7) (rest := []) (by rw [e5]; rfl) (fun r8 k8 e8 => zz_callV X (m_X9_noPattern (hlM X) _ _ _ _ _ e8) g9 rfl rfl q3876 q3878 qs113 q164 q3879 nh_X9 rfl (by decide) (by decide) (Nat.le_of_ble_eq_true rfl) dX9_candidate_7) (fun v2 h3 => ?_)
  refine vv_if_eq (pc := 10) (tgt := 17) X dX9_candidate_10 rfl ?_ ?_
  · refine vv_aload_n (pc := 17) X (kf := 0) (i := 0) rfl 0 rfl dX9_candidate_17 ?_
    refine vv_iload_n (pc := 18) X (kf := 1) (i := 1) rfl 1 rfl dX9_candidate_18 ?_
    refine vv_iload_n (pc := 19) X (kf := 2) (i := 2) rfl 2 rfl dX9_candidate_19 ?_
    refine vv_iconst (pc := 20) X dX9_candidate_20 ?_
    refine vv_rcv (fun b8 t9 c9 fs9 e9 g9 k9 => ?_)
    cases List.mem_singleton.mp k9
    refine vv_callI (pc := 21) (rest := []) (by rw [e9]; rfl) (fun r8 k8 e8 => zz_callV X (m_X9_nth (hlM X) _ _ _ _ _ _ _ e8) g9 rfl rfl q3966 q3968 qs122 q164 q3969 nh_X9 rfl (by decide) (by decide) (Nat.le_of_ble_eq_true rfl) dX9_candidate_21) (fun v6 h7 => ?_)
    exact vv_sub [] (by rfl) (B_X9_candidate_24 X _ _)
  · refine vv_iconst (pc := 13) X dX9_candidate_13 ?_
    refine vv_goto (pc := 14) (tgt := 24) X dX9_candidate_14 rfl ?_
    exact vv_sub [] (by rfl) (B_X9_candidate_24 X _ _)
theorem m_X9_candidate {l : Launch} (hl : l.stackTraces = false) {G : va_G} (a0 : Nat) (a1 : Int) (a2 : Int) (h : HP) : ∀ r hf, f_X9_candidate a0 a1 a2 h = some (r, hf) → Ct l yX9_candidate (ws_ yX9_candidate cX9_candidate 3 (some .int)) 7 216 G h [.ref a0, .int (iI a1), .int (iI a2)] (jI r) hf :=
  zz_ofW hl (by decide +kernel) (lv := [(0, LR (some a0)), (1, LI a1), (2, LI a2)]) (by simp [lv_args, lvL, lvV, zz_rfc, zz_rfs, zz_ci, zz_cr, zz_cj, zz_cf, zz_cd]) (by simp [lg_sl, zz_rfc, zz_ci, zz_cr, zz_cj, zz_cf, zz_cd]) (fun _ X => A_X9_candidate X a0 a1 a2 h)
-- X2_areAlike RenamedWords$Desk.areAlike(III)Z
noncomputable def f_X2_areAlike (a0 : Nat) (a1 : Int) (a2 : Int) (a3 : Int) (h : HP) : Option ((Int) × HP) :=
  (rdR h (some a0) [1] 5).bind fun v1 =>
  (rdR h (some a0) [1] 0).bind fun v2 =>
  (rcv h v1 [5]).bind fun b5 =>
  hb (f_X7_lays b5 v2 a1 a3 h) fun v3 h4 =>
  (rdR h4 (some a0) [1] 6).bind fun v7 =>
  (rdR h4 (some a0) [1] 0).bind fun v8 =>
  (rcv h4 v7 [5]).bind fun b11 =>
  hb (f_X7_lays b11 v8 a2 a3 h4) fun v9 h10 =>
  (rdI h10 (some a0) [1] 7).bind fun v13 =>
  hb (f_X1_match v3 v9 v13 h10) fun v14 h15 =>
  rtZ v14 (some (v14, h15))
theorem A_X2_areAlike {M : hp_M} {G : va_G} {h0 : HP} (X : hp_X M G h0 "RenamedWords$Desk" "areAlike" cX2_areAlike 4 (some .boolean) [] 7 213) (a0 : Nat) (a1 : Int) (a2 : Int) (a3 : Int) (h : HP) : vv M G h0 4 (hp_End M G h0) jI h 0 [(0, LR (some a0)), (1, LI a1), (2, LI a2), (3, LI a3)] [] (f_X2_areAlike a0 a1 a2 a3 h) := by
  unfold f_X2_areAlike
  refine vv_aload_n (pc := 0) X (kf := 0) (i := 0) rfl 0 rfl dX2_areAlike_0 ?_
  refine vv_getR (pc := 1) X (fun _ z => by cases List.mem_singleton.mp z; exact fl_X2_38_1) dX2_areAlike_1 (fun v1 => ?_)
  refine vv_aload_n (pc := 4) X (kf := 0) (i := 0) rfl 0 rfl dX2_areAlike_4 ?_
  refine vv_getR (pc := 5) X (fun _ z => by cases List.mem_singleton.mp z; exact fl_X2_12_1) dX2_areAlike_5 (fun v2 => ?_)
  refine vv_iload_n (pc := 8) X (kf := 1) (i := 1) rfl 1 rfl dX2_areAlike_8 ?_
  refine vv_iload_n (pc := 9) X (kf := 3) (i := 3) rfl 3 rfl dX2_areAlike_9 ?_
  refine vv_rcv (fun b5 t9 c9 fs9 e6 g9 k9 => ?_)
  cases List.mem_singleton.mp k9
  refine vv_callR (pc := 10) (rest := []) (by rw [e6]; rfl) (fun r8 k8 e8 => zz_callV X (m_X7_lays (hlM X) _ _ _ _ _ _ _ e8) g9 rfl rfl q2604 q2605 q2606 q159 q2607 nh_X7 rfl (by decide) (by decide) (Nat.le_of_ble_eq_true rfl) dX2_areAlike_10) (fun v3 h4 => ?_)
  refine vv_aload_n (pc := 13) X (kf := 0) (i := 0) rfl 0 rfl dX2_areAlike_13 ?_
  refine vv_getR (pc := 14) X (fun _ z => by cases List.mem_singleton.mp z; exact fl_X2_42_1) dX2_areAlike_14 (fun v7 => ?_)
  refine vv_aload_n (pc := 17) X (kf := 0) (i := 0) rfl 0 rfl dX2_areAlike_17 ?_
  refine vv_getR (pc := 18) X (fun _ z => by cases List.mem_singleton.mp z; exact fl_X2_12_1) dX2_areAlike_18 (fun v8 => ?_)
  refine vv_iload_n (pc := 21) X (kf := 2) (i := 2) rfl 2 rfl dX2_areAlike_21 ?_
  refine vv_iload_n (pc := 22) X (kf := 3) (i := 3) rfl 3 rfl dX2_areAlike_22 ?_
  refine vv_rcv (fun b11 t9 c9 fs9 e12 g9 k9 => ?_)
  cases List.mem_singleton.mp k9
  refine vv_callR (pc := 23) (rest := [LR v3]) (by rw [e12]; rfl) (fun r8 k8 e8 => zz_callV X (m_X7_lays (hlM X) _ _ _ _ _ _ _ e8) g9 rfl rfl q2604 q2605 q2606 q159 q2607 nh_X7 rfl (by decide) (by decide) (Nat.le_of_ble_eq_true rfl) dX2_areAlike_23) (fun v9 h10 => ?_)
  refine vv_aload_n (pc := 26) X (kf := 0) (i := 0) rfl 0 rfl dX2_areAlike_26 ?_
  refine vv_getI (pc := 27) X (fun _ z => by cases List.mem_singleton.mp z; exact fl_X2_108_1) dX2_areAlike_27 (fun v13 => ?_)
  refine vv_callI (pc := 30) (rest := []) (by rfl) (fun r8 k8 e8 => zz_callSN X (m_X1_match (hlM X) _ _ _ _ _ _ e8) q2608 q2609 q132 q2610 nh_X1 rfl (by decide) (by decide) (Nat.le_of_ble_eq_true rfl) dX2_areAlike_30) (fun v14 h15 => ?_)
  exact vv_iretZ X rfl rfl dX2_areAlike_33
theorem m_X2_areAlike {l : Launch} (hl : l.stackTraces = false) {G : va_G} (a0 : Nat) (a1 : Int) (a2 : Int) (a3 : Int) (h : HP) : ∀ r hf, f_X2_areAlike a0 a1 a2 a3 h = some (r, hf) → Ct l yX2_areAlike (ws_ yX2_areAlike cX2_areAlike 4 (some .boolean)) 7 213 G h [.ref a0, .int (iI a1), .int (iI a2), .int (iI a3)] (jI r) hf :=
  zz_ofW hl (by decide +kernel) (lv := [(0, LR (some a0)), (1, LI a1), (2, LI a2), (3, LI a3)]) (by simp [lv_args, lvL, lvV, zz_rfc, zz_rfs, zz_ci, zz_cr, zz_cj, zz_cf, zz_cd]) (by simp [lg_sl, zz_rfc, zz_ci, zz_cr, zz_cj, zz_cf, zz_cd]) (fun _ X => A_X2_areAlike X a0 a1 a2 a3 h)
-- X1_alike RenamedWords.alike(III)Z
noncomputable def b_X1_alike_51 (x0 : Option Nat) (x1 : Int) (x2 : Int) (x3 : Int) (s0 : Int) (h : HP) : Option ((Nat ⊕ Int) × HP) :=
  hbx (f_X1_argument s0 h) (fun q17 h18 =>
      some (.inl q17, h18)) fun _ h16 =>
  (rdR h16 x0 [0] 0).bind fun v19 =>
  (rcv h16 v19 [1]).bind fun b22 =>
  hb (f_X2_areAlike b22 x1 x2 x3 h16) fun v20 h21 =>
  rtZ v20 (some (.inr v20, h21))
theorem B_X1_alike_51 {M : hp_M} {G : va_G} {h0 : HP} (X : hp_X M G h0 "RenamedWords" "alike" cX1_alike 4 (some .boolean) [] 8 244) (x0 : Option Nat) (x1 : Int) (x2 : Int) (x3 : Int) (s0 : Int) (h : HP) : vv M G h0 4 (hp_End M G h0) xI h 51 [(0, LR x0), (1, LI x1), (2, LI x2), (3, LI x3)] [LI s0] (b_X1_alike_51 x0 x1 x2 x3 s0 h) := by
  unfold b_X1_alike_51
  refine vv_xallV (pc := 51) (rest := []) (by rfl) (fun r8 k8 e8 => zz_callS X (m_X1_argument (hlM X) _ _ _ _ e8) q3090 q3091 q132 q3092 nh_X1 rfl (by decide) (by decide) (Nat.le_of_ble_eq_true rfl) dX1_alike_51) (fun v15 h16 => ?_) (fun q17 h18 => ?_)
  · refine vv_aload_n (pc := 54) X (kf := 0) (i := 0) rfl 0 rfl dX1_alike_54 ?_
    refine vv_getR (pc := 55) X (fun _ z => by cases List.mem_singleton.mp z; exact fl_X1_35_0) dX1_alike_55 (fun v19 => ?_)
    refine vv_iload_n (pc := 58) X (kf := 1) (i := 1) rfl 1 rfl dX1_alike_58 ?_
    refine vv_iload_n (pc := 59) X (kf := 2) (i := 2) rfl 2 rfl dX1_alike_59 ?_
    refine vv_iload_n (pc := 60) X (kf := 3) (i := 3) rfl 3 rfl dX1_alike_60 ?_
    refine vv_rcv (fun b22 t9 c9 fs9 e23 g9 k9 => ?_)
    cases List.mem_singleton.mp k9
    refine vv_callI (pc := 61) (rest := []) (by rw [e23]; rfl) (fun r8 k8 e8 => zz_callV X (m_X2_areAlike (hlM X) _ _ _ _ _ _ _ e8) g9 rfl rfl q3287 q3288 q3289 q133 q3290 nh_X2 rfl (by decide) (by decide) (Nat.le_of_ble_eq_true rfl) dX1_alike_61) (fun v20 h21 => ?_)
    exact vv_iretZ X rfl rfl dX1_alike_64
  · exact vvx_out X (by decide) rfl
noncomputable def b_X1_alike_50 (x0 : Option Nat) (x1 : Int) (x2 : Int) (x3 : Int) (h : HP) : Option ((Nat ⊕ Int) × HP) :=
  b_X1_alike_51 x0 x1 x2 x3 0 h
theorem B_X1_alike_50 {M : hp_M} {G : va_G} {h0 : HP} (X : hp_X M G h0 "RenamedWords" "alike" cX1_alike 4 (some .boolean) [] 8 244) (x0 : Option Nat) (x1 : Int) (x2 : Int) (x3 : Int) (h : HP) : vv M G h0 4 (hp_End M G h0) xI h 50 [(0, LR x0), (1, LI x1), (2, LI x2), (3, LI x3)] [] (b_X1_alike_50 x0 x1 x2 x3 h) := by
  unfold b_X1_alike_50
  refine vv_iconst (pc := 50) X dX1_alike_50 ?_
  exact B_X1_alike_51 X _ _ _ _ _ _
noncomputable def f_X1_alike (a0 : Nat) (a1 : Int) (a2 : Int) (a3 : Int) (h : HP) : Option ((Nat ⊕ Int) × HP) :=
  (rcv h (some a0) [0]).bind fun b3 =>
  hbx (f_X1_placeAt b3 a1 h) (fun q5 h6 =>
      some (.inl q5, h6)) fun _ h2 =>
  (rcv h2 (some a0) [0]).bind fun b9 =>
  hbx (f_X1_placeAt b9 a2 h2) (fun q11 h12 =>
      some (.inl q11, h12)) fun _ h8 =>
  hb (f_X1_in (iL a3) 1 (200 : Int64) h8) fun v13 h14 =>
  iEQ v13 0
    (b_X1_alike_50 (some a0) a1 a2 a3 h14)
    ((rdR h14 (some a0) [0] 0).bind fun v24 =>
    (rcv h14 v24 [1]).bind fun b27 =>
    hb (f_X2_isWindow b27 a1 a3 h14) fun v25 h26 =>
    iEQ v25 0
      (b_X1_alike_50 (some a0) a1 a2 a3 h26)
      ((rdR h26 (some a0) [0] 0).bind fun v29 =>
      (rcv h26 v29 [1]).bind fun b32 =>
      hb (f_X2_isWindow b32 a2 a3 h26) fun v30 h31 =>
      iEQ v30 0
        (b_X1_alike_50 (some a0) a1 a2 a3 h31)
        (b_X1_alike_51 (some a0) a1 a2 a3 1 h31)))
theorem A_X1_alike {M : hp_M} {G : va_G} {h0 : HP} (X : hp_X M G h0 "RenamedWords" "alike" cX1_alike 4 (some .boolean) [] 8 244) (a0 : Nat) (a1 : Int) (a2 : Int) (a3 : Int) (h : HP) : vv M G h0 4 (hp_End M G h0) xI h 0 [(0, LR (some a0)), (1, LI a1), (2, LI a2), (3, LI a3)] [] (f_X1_alike a0 a1 a2 a3 h) := by
  unfold f_X1_alike
  refine vv_aload_n (pc := 0) X (kf := 0) (i := 0) rfl 0 rfl dX1_alike_0 ?_
  refine vv_iload_n (pc := 1) X (kf := 1) (i := 1) rfl 1 rfl dX1_alike_1 ?_
  refine vv_rcv (fun b3 t9 c9 fs9 e4 g9 k9 => ?_)
  cases List.mem_singleton.mp k9
  refine vv_xallV (pc := 2) (rest := []) (by rw [e4]; rfl) (fun r8 k8 e8 => zz_callV X (m_X1_placeAt (hlM X) _ _ _ _ _ e8) g9 rfl rfl q3061 q3063 qs46 q132 q3064 nh_X1 rfl (by decide) (by decide) (Nat.le_of_ble_eq_true rfl) dX1_alike_2) (fun v1 h2 => ?_) (fun q5 h6 => ?_)
  · refine vv_aload_n (pc := 5) X (kf := 0) (i := 0) rfl 0 rfl dX1_alike_5 ?_
    refine vv_iload_n (pc := 6) X (kf := 2) (i := 2) rfl 2 rfl dX1_alike_6 ?_
    refine vv_rcv (fun b9 t9 c9 fs9 e10 g9 k9 => ?_)
    cases List.mem_singleton.mp k9
    refine vv_xallV (pc := 7) (rest := []) (by rw [e10]; rfl) (fun r8 k8 e8 => zz_callV X (m_X1_placeAt (hlM X) _ _ _ _ _ e8) g9 rfl rfl q3061 q3063 qs46 q132 q3064 nh_X1 rfl (by decide) (by decide) (Nat.le_of_ble_eq_true rfl) dX1_alike_7) (fun v7 h8 => ?_) (fun q11 h12 => ?_)
    · refine vv_iload_n (pc := 10) X (kf := 3) (i := 3) rfl 3 rfl dX1_alike_10 ?_
      refine vv_i2l (pc := 11) X dX1_alike_11 ?_
      refine vv_lconst (pc := 12) (v := 1) X (by decide) dX1_alike_12 ?_
      refine vv_ldc2 (pc := 13) X q3088 dX1_alike_13 ?_
      refine vv_callI (pc := 16) (rest := []) (by rfl) (fun r8 k8 e8 => zz_callS X (m_X1_in (hlM X) _ _ _ _ _ _ e8) q2984 q873 q132 q874 nh_X1 rfl (by decide) (by decide) (Nat.le_of_ble_eq_true rfl) dX1_alike_16) (fun v13 h14 => ?_)
      refine vv_if_eq (pc := 19) (tgt := 50) X dX1_alike_19 rfl ?_ ?_
      · exact B_X1_alike_50 X _ _ _ _ _
      · refine vv_aload_n (pc := 22) X (kf := 0) (i := 0) rfl 0 rfl dX1_alike_22 ?_
        refine vv_getR (pc := 23) X (fun _ z => by cases List.mem_singleton.mp z; exact fl_X1_35_0) dX1_alike_23 (fun v24 => ?_)
        refine vv_iload_n (pc := 26) X (kf := 1) (i := 1) rfl 1 rfl dX1_alike_26 ?_
        refine vv_iload_n (pc := 27) X (kf := 3) (i := 3) rfl 3 rfl dX1_alike_27 ?_
        refine vv_rcv (fun b27 t9 c9 fs9 e28 g9 k9 => ?_)
        cases List.mem_singleton.mp k9
        refine vv_callI (pc := 28) (rest := []) (by rw [e28]; rfl) (fun r8 k8 e8 => zz_callV X (m_X2_isWindow (hlM X) _ _ _ _ _ _ e8) g9 rfl rfl q3089 q2796 q2797 q133 q2798 nh_X2 rfl (by decide) (by decide) (Nat.le_of_ble_eq_true rfl) dX1_alike_28) (fun v25 h26 => ?_)
        refine vv_if_eq (pc := 31) (tgt := 50) X dX1_alike_31 rfl ?_ ?_
        · exact B_X1_alike_50 X _ _ _ _ _
        · refine vv_aload_n (pc := 34) X (kf := 0) (i := 0) rfl 0 rfl dX1_alike_34 ?_
          refine vv_getR (pc := 35) X (fun _ z => by cases List.mem_singleton.mp z; exact fl_X1_35_0) dX1_alike_35 (fun v29 => ?_)
          refine vv_iload_n (pc := 38) X (kf := 2) (i := 2) rfl 2 rfl dX1_alike_38 ?_
          refine vv_iload_n (pc := 39) X (kf := 3) (i := 3) rfl 3 rfl dX1_alike_39 ?_
          refine vv_rcv (fun b32 t9 c9 fs9 e33 g9 k9 => ?_)
          cases List.mem_singleton.mp k9
          refine vv_callI (pc := 40) (rest := []) (by rw [e33]; rfl) (fun r8 k8 e8 => zz_callV X (m_X2_isWindow (hlM X) _ _ _ _ _ _ e8) g9 rfl rfl q3089 q2796 q2797 q133 q2798 nh_X2 rfl (by decide) (by decide) (Nat.le_of_ble_eq_true rfl) dX1_alike_40) (fun v30 h31 => ?_)
          refine vv_if_eq (pc := 43) (tgt := 50) X dX1_alike_43 rfl ?_ ?_
          · exact B_X1_alike_50 X _ _ _ _ _
          · refine vv_iconst (pc := 46) X dX1_alike_46 ?_
            refine vv_goto (pc := 47) (tgt := 51) X dX1_alike_47 rfl ?_
            exact B_X1_alike_51 X _ _ _ _ _ _
    · exact vvx_out X (by decide) rfl
  · exact vvx_out X (by decide) rfl
theorem m_X1_alike {l : Launch} (hl : l.stackTraces = false) {G : va_G} (a0 : Nat) (a1 : Int) (a2 : Int) (a3 : Int) (h : HP) : ∀ r hf, f_X1_alike a0 a1 a2 a3 h = some (r, hf) → Ct l yX1_alike (ws_ yX1_alike cX1_alike 4 (some .boolean)) 8 244 G h [.ref a0, .int (iI a1), .int (iI a2), .int (iI a3)] (xI r) hf :=
  zz_ofW hl (by decide +kernel) (lv := [(0, LR (some a0)), (1, LI a1), (2, LI a2), (3, LI a3)]) (by simp [lv_args, lvL, lvV, zz_rfc, zz_rfs, zz_ci, zz_cr, zz_cj, zz_cf, zz_cd]) (by simp [lg_sl, zz_rfc, zz_ci, zz_cr, zz_cj, zz_cf, zz_cd]) (fun _ X => A_X1_alike X a0 a1 a2 a3 h)
-- X0_alike RenamedWordsLaw.alike(LRenamedWords;III[J)I
noncomputable def b_X0_alike_26 (s0 : Option Nat) (h : HP) : Option ((Int) × HP) :=
  some (2, h)
theorem B_X0_alike_26 {M : hp_M} {G : va_G} {h0 : HP} (X : hp_X M G h0 "RenamedWordsLaw" "alike" cX0_alike 6 (some .int) (tableOf [(0, 19, 22, 18), (0, 19, 26, 13)]) 9 275) (s0 : Option Nat) (h : HP) : vv M G h0 6 (hp_End M G h0) jI h 26 [] [LR s0] (b_X0_alike_26 s0 h) := by
  unfold b_X0_alike_26
  refine vv_astore (pc := 26) (lv' := [(5, LR s0)]) X (by decide) rfl dX0_alike_26 ?_
  refine vv_iconst (pc := 28) X dX0_alike_28 ?_
  exact vv_iretI X rfl rfl dX0_alike_29
noncomputable def b_X0_alike_22 (s0 : Option Nat) (h : HP) : Option ((Int) × HP) :=
  some (1, h)
theorem B_X0_alike_22 {M : hp_M} {G : va_G} {h0 : HP} (X : hp_X M G h0 "RenamedWordsLaw" "alike" cX0_alike 6 (some .int) (tableOf [(0, 19, 22, 18), (0, 19, 26, 13)]) 9 275) (s0 : Option Nat) (h : HP) : vv M G h0 6 (hp_End M G h0) jI h 22 [] [LR s0] (b_X0_alike_22 s0 h) := by
  unfold b_X0_alike_22
  refine vv_astore (pc := 22) (lv' := [(5, LR s0)]) X (by decide) rfl dX0_alike_22 ?_
  refine vv_iconst (pc := 24) X dX0_alike_24 ?_
  exact vv_iretI X rfl rfl dX0_alike_25
noncomputable def b_X0_alike_18 (s0 : Int64) (s1 : Int) (s2 : Option Nat) (h : HP) : Option ((Int) × HP) :=
  (astJ h s2 s1 s0).bind fun h8 =>
  some (0, h8)
theorem B_X0_alike_18 {M : hp_M} {G : va_G} {h0 : HP} (X : hp_X M G h0 "RenamedWordsLaw" "alike" cX0_alike 6 (some .int) (tableOf [(0, 19, 22, 18), (0, 19, 26, 13)]) 9 275) (s0 : Int64) (s1 : Int) (s2 : Option Nat) (h : HP) : vv M G h0 6 (hp_End M G h0) jI h 18 [] [LJ s0, LI s1, LR s2] (b_X0_alike_18 s0 s1 s2 h) := by
  unfold b_X0_alike_18
  refine vv_lastore (pc := 18) X dX0_alike_18 (fun h8 => ?_)
  refine vv_goto (pc := 19) (tgt := 30) X dX0_alike_19 rfl ?_
  refine vv_iconst (pc := 30) X dX0_alike_30 ?_
  exact vv_iretI X rfl rfl dX0_alike_31
noncomputable def f_X0_alike (a1 : Option Nat) (a2 : Int) (a3 : Int) (a4 : Int) (a5 : Option Nat) (h : HP) : Option ((Int) × HP) :=
  (rcv h a1 [0]).bind fun b3 =>
  hbx (f_X1_alike b3 a2 a3 a4 h) (fun q5 h6 =>
      (clsOf h6 q5).bind fun c7 =>
      if c7 = 35 then
        b_X0_alike_22 (some q5) h6
      else
        if c7 = 36 then
          b_X0_alike_26 (some q5) h6
        else
          none) fun v1 h2 =>
  iEQ v1 0
    (b_X0_alike_18 0 0 a5 h2)
    (b_X0_alike_18 1 0 a5 h2)
theorem A_X0_alike {M : hp_M} {G : va_G} {h0 : HP} (X : hp_X M G h0 "RenamedWordsLaw" "alike" cX0_alike 6 (some .int) (tableOf [(0, 19, 22, 18), (0, 19, 26, 13)]) 9 275) (a1 : Option Nat) (a2 : Int) (a3 : Int) (a4 : Int) (a5 : Option Nat) (h : HP) : vv M G h0 6 (hp_End M G h0) jI h 0 [(0, LR a1), (1, LI a2), (2, LI a3), (3, LI a4), (4, LR a5)] [] (f_X0_alike a1 a2 a3 a4 a5 h) := by
  unfold f_X0_alike
  refine vv_aload (pc := 0) X 4 rfl dX0_alike_0 ?_
  refine vv_iconst (pc := 2) X dX0_alike_2 ?_
  refine vv_aload_n (pc := 3) X (kf := 0) (i := 0) rfl 0 rfl dX0_alike_3 ?_
  refine vv_iload_n (pc := 4) X (kf := 1) (i := 1) rfl 1 rfl dX0_alike_4 ?_
  refine vv_iload_n (pc := 5) X (kf := 2) (i := 2) rfl 2 rfl dX0_alike_5 ?_
  refine vv_iload_n (pc := 6) X (kf := 3) (i := 3) rfl 3 rfl dX0_alike_6 ?_
  refine vv_rcv (fun b3 t9 c9 fs9 e4 g9 k9 => ?_)
  cases List.mem_singleton.mp k9
  refine vv_xallI (pc := 7) (rest := [LI 0, LR a5]) (by rw [e4]; rfl) (fun r8 k8 e8 => zz_callV X (m_X1_alike (hlM X) _ _ _ _ _ _ _ e8) g9 rfl rfl q3283 q3284 q3285 q132 q3286 nh_X1 rfl (by decide) (by decide) (Nat.le_of_ble_eq_true rfl) dX0_alike_7) (fun v1 h2 => ?_) (fun q5 h6 => ?_)
  · refine vv_if_eq (pc := 10) (tgt := 17) X dX0_alike_10 rfl ?_ ?_
    · refine vv_lconst (pc := 17) (v := 0) X (by decide) dX0_alike_17 ?_
      exact vv_sub [] (by rfl) (B_X0_alike_18 X _ _ _ _)
    · refine vv_lconst (pc := 13) (v := 1) X (by decide) dX0_alike_13 ?_
      refine vv_goto (pc := 14) (tgt := 18) X dX0_alike_14 rfl ?_
      exact vv_sub [] (by rfl) (B_X0_alike_18 X _ _ _ _)
  · refine vvx_cls (fun _ c7 _ g9 => ?_)
    refine vvx_if (fun e9 => ?_) (fun _ => ?_)
    · subst e9
      refine vvx_catch X g9 rfl [] ⟨0, 19, 22, 18⟩ [⟨0, 19, 26, 13⟩] rfl (fun z hz => nomatch hz) rfl (by decide) q3041 q2274 ?_
      exact vv_sub [] (by rfl) (B_X0_alike_22 X _ _)
    · refine vvx_if (fun e9 => ?_) (fun _ => ?_)
      · subst e9
        refine vvx_catch X g9 rfl [⟨0, 19, 22, 18⟩] ⟨0, 19, 26, 13⟩ [] rfl (fun z hz => by rcases List.mem_cons.mp hz with rfl | hz; exact Or.inr ⟨by decide, _, q3041, List.mem_of_getElem? (i := 0) rfl⟩; exact nomatch hz) rfl (by decide) q3013 q275 ?_
        exact vv_sub [] (by rfl) (B_X0_alike_26 X _ _)
      · exact vvx_none
theorem m_X0_alike {l : Launch} (hl : l.stackTraces = false) {G : va_G} (a1 : Option Nat) (a2 : Int) (a3 : Int) (a4 : Int) (a5 : Option Nat) (h : HP) : ∀ r hf, f_X0_alike a1 a2 a3 a4 a5 h = some (r, hf) → Ct l yX0_alike (wsW_ yX0_alike cX0_alike 6 (some .int) [(0, 19, 22, 18), (0, 19, 26, 13)]) 9 275 G h [va_rf a1, .int (iI a2), .int (iI a3), .int (iI a4), va_rf a5] (jI r) hf :=
  zz_ofWH hl (by decide +kernel) (lv := [(0, LR a1), (1, LI a2), (2, LI a3), (3, LI a4), (4, LR a5)]) (by simp [lv_args, lvL, lvV, zz_rfc, zz_rfs, zz_ci, zz_cr, zz_cj, zz_cf, zz_cd]) (by simp [lg_sl, zz_rfc, zz_ci, zz_cr, zz_cj, zz_cf, zz_cd]) (fun _ X => A_X0_alike X a1 a2 a3 a4 a5 h)
-- X9_alike RenamedWordsModel.alike(III)Z
noncomputable def b_X9_alike_61 (h : HP) : Option ((Int) × HP) :=
  some (0, h)
theorem B_X9_alike_61 {M : hp_M} {G : va_G} {h0 : HP} (X : hp_X M G h0 "RenamedWordsModel" "alike" cX9_alike 4 (some .boolean) [] 5 154) (h : HP) : vv M G h0 4 (hp_End M G h0) jI h 61 [] [] (b_X9_alike_61 h) := by
  unfold b_X9_alike_61
  refine vv_iconst (pc := 61) X dX9_alike_61 ?_
  exact vv_iret0 X rfl rfl dX9_alike_62
noncomputable def b_X9_alike_54 (x0 : Option Nat) (x1 : Int) (x2 : Int) (x3 : Int) (s0 : Int) (s1 : Option Nat) (h : HP) : Option ((Int) × HP) :=
  (rcv h s1 [7]).bind fun b14 =>
  hb (f_X9_fails b14 s0 2 h) fun v12 h13 =>
  iEQ v12 0
    (hb (f_X9_textFrom x1 h13) fun v16 h17 =>
    hb (f_X9_textFrom x2 h17) fun v18 h19 =>
    (rcv h19 x0 [7]).bind fun b22 =>
    hb (f_X9_areAlike b22 v16 v18 x3 h19) fun v20 h21 =>
    rtZ v20 (some (v20, h21)))
    (b_X9_alike_61 h13)
theorem B_X9_alike_54 {M : hp_M} {G : va_G} {h0 : HP} (X : hp_X M G h0 "RenamedWordsModel" "alike" cX9_alike 4 (some .boolean) [] 5 154) (x0 : Option Nat) (x1 : Int) (x2 : Int) (x3 : Int) (s0 : Int) (s1 : Option Nat) (h : HP) : vv M G h0 4 (hp_End M G h0) jI h 54 [(0, LR x0), (1, LI x1), (2, LI x2), (3, LI x3)] [LI s0, LR s1] (b_X9_alike_54 x0 x1 x2 x3 s0 s1 h) := by
  unfold b_X9_alike_54
  refine vv_iconst (pc := 54) X dX9_alike_54 ?_
  refine vv_rcv (fun b14 t9 c9 fs9 e15 g9 k9 => ?_)
  cases List.mem_singleton.mp k9
  refine vv_callI (pc := 55) (rest := []) (by rw [e15]; rfl) (fun r8 k8 e8 => zz_callV X (m_X9_fails (hlM X) _ _ _ _ _ _ e8) g9 rfl rfl q3841 q3843 qs109 q164 q3844 nh_X9 rfl (by decide) (by decide) (Nat.le_of_ble_eq_true rfl) dX9_alike_55) (fun v12 h13 => ?_)
  refine vv_if_eq (pc := 58) (tgt := 63) X dX9_alike_58 rfl ?_ ?_
  · refine vv_aload_n (pc := 63) X (kf := 0) (i := 0) rfl 0 rfl dX9_alike_63 ?_
    refine vv_iload_n (pc := 64) X (kf := 1) (i := 1) rfl 1 rfl dX9_alike_64 ?_
    refine vv_callI (pc := 65) (rest := [LR x0]) (by rfl) (fun r8 k8 e8 => zz_callS X (m_X9_textFrom (hlM X) _ _ _ _ e8) q3774 q3775 q164 q3776 nh_X9 rfl (by decide) (by decide) (Nat.le_of_ble_eq_true rfl) dX9_alike_65) (fun v16 h17 => ?_)
    refine vv_iload_n (pc := 68) X (kf := 2) (i := 2) rfl 2 rfl dX9_alike_68 ?_
    refine vv_callI (pc := 69) (rest := [LI v16, LR x0]) (by rfl) (fun r8 k8 e8 => zz_callS X (m_X9_textFrom (hlM X) _ _ _ _ e8) q3774 q3775 q164 q3776 nh_X9 rfl (by decide) (by decide) (Nat.le_of_ble_eq_true rfl) dX9_alike_69) (fun v18 h19 => ?_)
    refine vv_iload_n (pc := 72) X (kf := 3) (i := 3) rfl 3 rfl dX9_alike_72 ?_
    refine vv_rcv (fun b22 t9 c9 fs9 e23 g9 k9 => ?_)
    cases List.mem_singleton.mp k9
    refine vv_callI (pc := 73) (rest := []) (by rw [e23]; rfl) (fun r8 k8 e8 => zz_callV X (m_X9_areAlike (hlM X) _ _ _ _ _ _ _ e8) g9 rfl rfl q3884 q3886 qs115 q164 q3887 nh_X9 rfl (by decide) (by decide) (Nat.le_of_ble_eq_true rfl) dX9_alike_73) (fun v20 h21 => ?_)
    exact vv_iretZ X rfl rfl dX9_alike_76
  · exact vv_sub [] (by rfl) (B_X9_alike_61 X _)
noncomputable def b_X9_alike_49 (x0 : Option Nat) (x1 : Int) (x2 : Int) (x3 : Int) (s0 : Option Nat) (h : HP) : Option ((Int) × HP) :=
  b_X9_alike_54 x0 x1 x2 x3 1 s0 h
theorem B_X9_alike_49 {M : hp_M} {G : va_G} {h0 : HP} (X : hp_X M G h0 "RenamedWordsModel" "alike" cX9_alike 4 (some .boolean) [] 5 154) (x0 : Option Nat) (x1 : Int) (x2 : Int) (x3 : Int) (s0 : Option Nat) (h : HP) : vv M G h0 4 (hp_End M G h0) jI h 49 [(0, LR x0), (1, LI x1), (2, LI x2), (3, LI x3)] [LR s0] (b_X9_alike_49 x0 x1 x2 x3 s0 h) := by
  unfold b_X9_alike_49
  refine vv_iconst (pc := 49) X dX9_alike_49 ?_
  refine vv_goto (pc := 50) (tgt := 54) X dX9_alike_50 rfl ?_
  exact B_X9_alike_54 X _ _ _ _ _ _ _
noncomputable def f_X9_alike (a0 : Nat) (a1 : Int) (a2 : Int) (a3 : Int) (h : HP) : Option ((Int) × HP) :=
  (wrI h (some a0) [7] 7 0).bind fun h1 =>
  (rcv h1 (some a0) [7]).bind fun b4 =>
  hb (f_X9_noPlace b4 a1 h1) fun v2 h3 =>
  iEQ v2 0
    ((rcv h3 (some a0) [7]).bind fun b8 =>
    hb (f_X9_noPlace b8 a2 h3) fun v6 h7 =>
    iEQ v6 0
      (hb (f_X9_in a3 1 200 h7) fun v10 h11 =>
      iEQ v10 0
        (b_X9_alike_49 (some a0) a1 a2 a3 (some a0) h11)
        (hb (f_J14_max a1 a2 h11) fun v24 h25 =>
        (rdR h25 (some a0) [7] 0).bind fun v26 =>
        (aldI h25 .int v26 1).bind fun v27 =>
        iLE (v24 + a3) v27
          (b_X9_alike_54 (some a0) a1 a2 a3 0 (some a0) h25)
          (b_X9_alike_49 (some a0) a1 a2 a3 (some a0) h25)))
      (b_X9_alike_61 h7))
    (b_X9_alike_61 h3)
theorem A_X9_alike {M : hp_M} {G : va_G} {h0 : HP} (X : hp_X M G h0 "RenamedWordsModel" "alike" cX9_alike 4 (some .boolean) [] 5 154) (a0 : Nat) (a1 : Int) (a2 : Int) (a3 : Int) (h : HP) : vv M G h0 4 (hp_End M G h0) jI h 0 [(0, LR (some a0)), (1, LI a1), (2, LI a2), (3, LI a3)] [] (f_X9_alike a0 a1 a2 a3 h) := by
  unfold f_X9_alike
  refine vv_aload_n (pc := 0) X (kf := 0) (i := 0) rfl 0 rfl dX9_alike_0 ?_
  refine vv_iconst (pc := 1) X dX9_alike_1 ?_
  refine vv_putI (pc := 2) (fin := false) X (fun _ z => by cases List.mem_singleton.mp z; exact fl_X9_69_7) (fun z => nomatch z) (fun z => nomatch z) dX9_alike_2 (fun h1 => ?_)
  refine vv_aload_n (pc := 5) X (kf := 0) (i := 0) rfl 0 rfl dX9_alike_5 ?_
  refine vv_iload_n (pc := 6) X (kf := 1) (i := 1) rfl 1 rfl dX9_alike_6 ?_
  refine vv_rcv (fun b4 t9 c9 fs9 e5 g9 k9 => ?_)
  cases List.mem_singleton.mp k9
  refine vv_callI (pc := 7) (rest := []) (by rw [e5]; rfl) (fun r8 k8 e8 => zz_callV X (m_X9_noPlace (hlM X) _ _ _ _ _ e8) g9 rfl rfl q3860 q3862 qs112 q164 q3863 nh_X9 rfl (by decide) (by decide) (Nat.le_of_ble_eq_true rfl) dX9_alike_7) (fun v2 h3 => ?_)
  refine vv_if_ne (pc := 10) (tgt := 61) X dX9_alike_10 rfl ?_ ?_
  · exact vv_sub [] (by rfl) (B_X9_alike_61 X _)
  · refine vv_aload_n (pc := 13) X (kf := 0) (i := 0) rfl 0 rfl dX9_alike_13 ?_
    refine vv_iload_n (pc := 14) X (kf := 2) (i := 2) rfl 2 rfl dX9_alike_14 ?_
    refine vv_rcv (fun b8 t9 c9 fs9 e9 g9 k9 => ?_)
    cases List.mem_singleton.mp k9
    refine vv_callI (pc := 15) (rest := []) (by rw [e9]; rfl) (fun r8 k8 e8 => zz_callV X (m_X9_noPlace (hlM X) _ _ _ _ _ e8) g9 rfl rfl q3860 q3862 qs112 q164 q3863 nh_X9 rfl (by decide) (by decide) (Nat.le_of_ble_eq_true rfl) dX9_alike_15) (fun v6 h7 => ?_)
    refine vv_if_ne (pc := 18) (tgt := 61) X dX9_alike_18 rfl ?_ ?_
    · exact vv_sub [] (by rfl) (B_X9_alike_61 X _)
    · refine vv_aload_n (pc := 21) X (kf := 0) (i := 0) rfl 0 rfl dX9_alike_21 ?_
      refine vv_iload_n (pc := 22) X (kf := 3) (i := 3) rfl 3 rfl dX9_alike_22 ?_
      refine vv_iconst (pc := 23) X dX9_alike_23 ?_
      refine vv_sipush (pc := 24) X (by decide) dX9_alike_24 ?_
      refine vv_callI (pc := 27) (rest := [LR (some a0)]) (by rfl) (fun r8 k8 e8 => zz_callS X (m_X9_in (hlM X) _ _ _ _ _ _ e8) q3593 q3594 q164 q3595 nh_X9 rfl (by decide) (by decide) (Nat.le_of_ble_eq_true rfl) dX9_alike_27) (fun v10 h11 => ?_)
      refine vv_if_eq (pc := 30) (tgt := 49) X dX9_alike_30 rfl ?_ ?_
      · exact B_X9_alike_49 X _ _ _ _ _ _
      · refine vv_iload_n (pc := 33) X (kf := 1) (i := 1) rfl 1 rfl dX9_alike_33 ?_
        refine vv_iload_n (pc := 34) X (kf := 2) (i := 2) rfl 2 rfl dX9_alike_34 ?_
        refine vv_callI (pc := 35) (rest := [LR (some a0)]) (by rfl) (fun r8 k8 e8 => zz_callS X (m_J14_max (hlM X) _ _ _ _ _ e8) q3978 q374 q149 q375 nh_J14 rfl (by decide) (by decide) (Nat.le_of_ble_eq_true rfl) dX9_alike_35) (fun v24 h25 => ?_)
        refine vv_iload_n (pc := 38) X (kf := 3) (i := 3) rfl 3 rfl dX9_alike_38 ?_
        refine vv_iadd (pc := 39) X dX9_alike_39 ?_
        refine vv_aload_n (pc := 40) X (kf := 0) (i := 0) rfl 0 rfl dX9_alike_40 ?_
        refine vv_getR (pc := 41) X (fun _ z => by cases List.mem_singleton.mp z; exact fl_X9_9_7) dX9_alike_41 (fun v26 => ?_)
        refine vv_iconst (pc := 44) X dX9_alike_44 ?_
        refine vv_iaload (pc := 45) X dX9_alike_45 (fun v27 => ?_)
        refine vv_icmp_le (pc := 46) (tgt := 53) X dX9_alike_46 rfl ?_ ?_
        · refine vv_iconst (pc := 53) X dX9_alike_53 ?_
          exact B_X9_alike_54 X _ _ _ _ _ _ _
        · exact B_X9_alike_49 X _ _ _ _ _ _
theorem m_X9_alike {l : Launch} (hl : l.stackTraces = false) {G : va_G} (a0 : Nat) (a1 : Int) (a2 : Int) (a3 : Int) (h : HP) : ∀ r hf, f_X9_alike a0 a1 a2 a3 h = some (r, hf) → Ct l yX9_alike (ws_ yX9_alike cX9_alike 4 (some .boolean)) 5 154 G h [.ref a0, .int (iI a1), .int (iI a2), .int (iI a3)] (jI r) hf :=
  zz_ofW hl (by decide +kernel) (lv := [(0, LR (some a0)), (1, LI a1), (2, LI a2), (3, LI a3)]) (by simp [lv_args, lvL, lvV, zz_rfc, zz_rfs, zz_ci, zz_cr, zz_cj, zz_cf, zz_cd]) (by simp [lg_sl, zz_rfc, zz_ci, zz_cr, zz_cj, zz_cf, zz_cd]) (fun _ X => A_X9_alike X a0 a1 a2 a3 h)
-- X2_classes RenamedWords$Desk.classes(I)I
noncomputable def b_X2_classes_58 (r4 : Option Nat → Int → Int → Int → HP → Option ((Int) × HP)) (x0 : Option Nat) (x1 : Int) (x2 : Int) (x3 : Int) (x4 : Int) (h : HP) : Option ((Int) × HP) :=
  hb (f_X1_one x4 h) fun v3 h4 =>
  r4 x0 x1 (x2 + v3) (x3 + 1) h4
theorem B_X2_classes_58 {M : hp_M} {G : va_G} {h0 : HP} (X : hp_X M G h0 "RenamedWords$Desk" "classes" cX2_classes 6 (some .int) [] 8 244) (r4 : Option Nat → Int → Int → Int → HP → Option ((Int) × HP)) (hr4 : ∀ (y0 : Option Nat) (y1 : Int) (y2 : Int) (y3 : Int) (h : HP), vv M G h0 6 (hp_End M G h0) jI h 4 [(0, LR y0), (1, LI y1), (2, LI y2), (3, LI y3)] [] (r4 y0 y1 y2 y3 h)) (x0 : Option Nat) (x1 : Int) (x2 : Int) (x3 : Int) (x4 : Int) (h : HP) : vv M G h0 6 (hp_End M G h0) jI h 58 [(0, LR x0), (1, LI x1), (2, LI x2), (3, LI x3), (4, LI x4)] [] (b_X2_classes_58 r4 x0 x1 x2 x3 x4 h) := by
  unfold b_X2_classes_58
  refine vv_iload_n (pc := 58) X (kf := 2) (i := 2) rfl 2 rfl dX2_classes_58 ?_
  refine vv_iload (pc := 59) X 4 rfl dX2_classes_59 ?_
  refine vv_callI (pc := 61) (rest := [LI x2]) (by rfl) (fun r8 k8 e8 => zz_callSN X (m_X1_one (hlM X) _ _ _ _ e8) q2812 q836 q132 q837 nh_X1 rfl (by decide) (by decide) (Nat.le_of_ble_eq_true rfl) dX2_classes_61) (fun v3 h4 => ?_)
  refine vv_iadd (pc := 64) X dX2_classes_64 ?_
  refine vv_istore_n (pc := 65) (lv' := [(2, LI (x2 + v3)), (0, LR x0), (1, LI x1), (3, LI x3), (4, LI x4)]) X (kf := 2) (i := 2) rfl (by decide) rfl dX2_classes_65 ?_
  refine vv_iinc (pc := 66) (lv' := [(3, LI (x3 + 1)), (2, LI (x2 + v3)), (0, LR x0), (1, LI x1), (4, LI x4)]) X 3 rfl (by decide) rfl dX2_classes_66 ?_
  refine vv_goto (pc := 69) (tgt := 4) X dX2_classes_69 rfl ?_
  exact vv_sub [2, 3, 1, 0] (by rfl) (hr4 _ _ _ _ _)
noncomputable def b_X2_classes_50 (r4 : Option Nat → Int → Int → Int → HP → Option ((Int) × HP)) (r23 : Option Nat → Int → Int → Int → Int → Int → HP → Option ((Int) × HP)) (x0 : Option Nat) (x1 : Int) (x2 : Int) (x3 : Int) (x5 : Int) (s0 : Int) (h : HP) : Option ((Int) × HP) :=
  r23 x0 x1 x2 x3 s0 (x5 + 1) h
theorem B_X2_classes_50 {M : hp_M} {G : va_G} {h0 : HP} (X : hp_X M G h0 "RenamedWords$Desk" "classes" cX2_classes 6 (some .int) [] 8 244) (r4 : Option Nat → Int → Int → Int → HP → Option ((Int) × HP)) (hr4 : ∀ (y0 : Option Nat) (y1 : Int) (y2 : Int) (y3 : Int) (h : HP), vv M G h0 6 (hp_End M G h0) jI h 4 [(0, LR y0), (1, LI y1), (2, LI y2), (3, LI y3)] [] (r4 y0 y1 y2 y3 h)) (r23 : Option Nat → Int → Int → Int → Int → Int → HP → Option ((Int) × HP)) (hr23 : ∀ (y0 : Option Nat) (y1 : Int) (y2 : Int) (y3 : Int) (y4 : Int) (y5 : Int) (h : HP), vv M G h0 6 (hp_End M G h0) jI h 23 [(0, LR y0), (1, LI y1), (2, LI y2), (3, LI y3), (4, LI y4), (5, LI y5)] [] (r23 y0 y1 y2 y3 y4 y5 h)) (x0 : Option Nat) (x1 : Int) (x2 : Int) (x3 : Int) (x5 : Int) (s0 : Int) (h : HP) : vv M G h0 6 (hp_End M G h0) jI h 50 [(0, LR x0), (1, LI x1), (2, LI x2), (3, LI x3), (5, LI x5)] [LI s0] (b_X2_classes_50 r4 r23 x0 x1 x2 x3 x5 s0 h) := by
  unfold b_X2_classes_50
  refine vv_istore (pc := 50) (lv' := [(4, LI s0), (0, LR x0), (1, LI x1), (2, LI x2), (3, LI x3), (5, LI x5)]) X (by decide) rfl dX2_classes_50 ?_
  refine vv_iinc (pc := 52) (lv' := [(5, LI (x5 + 1)), (4, LI s0), (0, LR x0), (1, LI x1), (2, LI x2), (3, LI x3)]) X 5 rfl (by decide) rfl dX2_classes_52 ?_
  refine vv_goto (pc := 55) (tgt := 23) X dX2_classes_55 rfl ?_
  exact vv_sub [2, 3, 4, 5, 1, 0] (by rfl) (hr23 _ _ _ _ _ _ _)
noncomputable def c_X2_classes_23 (r4 : Option Nat → Int → Int → Int → HP → Option ((Int) × HP)) (r23 : Option Nat → Int → Int → Int → Int → Int → HP → Option ((Int) × HP)) (x0 : Option Nat) (x1 : Int) (x2 : Int) (x3 : Int) (x4 : Int) (x5 : Int) (h : HP) : Option ((Int) × HP) :=
  iLE x3 x5
    (b_X2_classes_58 r4 x0 x1 x2 x3 x4 h)
    (iEQ x4 0
      (b_X2_classes_58 r4 x0 x1 x2 x3 x4 h)
      ((rcv h x0 [1]).bind fun b7 =>
      hb (f_X2_areAlike b7 x3 x5 x1 h) fun v5 h6 =>
      iEQ v5 0
        (b_X2_classes_50 r4 r23 x0 x1 x2 x3 x5 1 h6)
        (b_X2_classes_50 r4 r23 x0 x1 x2 x3 x5 0 h6)))
noncomputable def b_X2_classes_23 (r4 : Option Nat → Int → Int → Int → HP → Option ((Int) × HP)) : Option Nat → Int → Int → Int → Int → Int → HP → Option ((Int) × HP) := fx (fun _ _ _ _ _ _ _ => none) (c_X2_classes_23 r4) FU
theorem C_X2_classes_23 {M : hp_M} {G : va_G} {h0 : HP} (X : hp_X M G h0 "RenamedWords$Desk" "classes" cX2_classes 6 (some .int) [] 8 244) (r4 : Option Nat → Int → Int → Int → HP → Option ((Int) × HP)) (hr4 : ∀ (y0 : Option Nat) (y1 : Int) (y2 : Int) (y3 : Int) (h : HP), vv M G h0 6 (hp_End M G h0) jI h 4 [(0, LR y0), (1, LI y1), (2, LI y2), (3, LI y3)] [] (r4 y0 y1 y2 y3 h)) (r23 : Option Nat → Int → Int → Int → Int → Int → HP → Option ((Int) × HP)) (hr23 : ∀ (y0 : Option Nat) (y1 : Int) (y2 : Int) (y3 : Int) (y4 : Int) (y5 : Int) (h : HP), vv M G h0 6 (hp_End M G h0) jI h 23 [(0, LR y0), (1, LI y1), (2, LI y2), (3, LI y3), (4, LI y4), (5, LI y5)] [] (r23 y0 y1 y2 y3 y4 y5 h)) (x0 : Option Nat) (x1 : Int) (x2 : Int) (x3 : Int) (x4 : Int) (x5 : Int) (h : HP) : vv M G h0 6 (hp_End M G h0) jI h 23 [(0, LR x0), (1, LI x1), (2, LI x2), (3, LI x3), (4, LI x4), (5, LI x5)] [] (c_X2_classes_23 r4 r23 x0 x1 x2 x3 x4 x5 h) := by
  unfold c_X2_classes_23
  refine vv_iload (pc := 23) X 5 rfl dX2_classes_23 ?_
  refine vv_iload_n (pc := 25) X (kf := 3) (i := 3) rfl 3 rfl dX2_classes_25 ?_
  refine vv_icmp_ge (pc := 26) (tgt := 58) X dX2_classes_26 rfl ?_ ?_
  · exact vv_sub [0, 1, 2, 3, 4] (by rfl) (B_X2_classes_58 X r4 hr4 _ _ _ _ _ _)
  · refine vv_iload (pc := 29) X 4 rfl dX2_classes_29 ?_
    refine vv_if_eq (pc := 31) (tgt := 58) X dX2_classes_31 rfl ?_ ?_
    · exact vv_sub [0, 1, 2, 3, 4] (by rfl) (B_X2_classes_58 X r4 hr4 _ _ _ _ _ _)
    · refine vv_aload_n (pc := 34) X (kf := 0) (i := 0) rfl 0 rfl dX2_classes_34 ?_
      refine vv_iload_n (pc := 35) X (kf := 3) (i := 3) rfl 3 rfl dX2_classes_35 ?_
      refine vv_iload (pc := 36) X 5 rfl dX2_classes_36 ?_
      refine vv_iload_n (pc := 38) X (kf := 1) (i := 1) rfl 1 rfl dX2_classes_38 ?_
      refine vv_rcv (fun b7 t9 c9 fs9 e8 g9 k9 => ?_)
      cases List.mem_singleton.mp k9
      refine vv_callI (pc := 39) (rest := []) (by rw [e8]; rfl) (fun r8 k8 e8 => zz_callV X (m_X2_areAlike (hlM X) _ _ _ _ _ _ _ e8) g9 rfl rfl q3302 q3288 q3289 q133 q3290 nh_X2 rfl (by decide) (by decide) (Nat.le_of_ble_eq_true rfl) dX2_classes_39) (fun v5 h6 => ?_)
      refine vv_if_ne (pc := 42) (tgt := 49) X dX2_classes_42 rfl ?_ ?_
      · refine vv_iconst (pc := 49) X dX2_classes_49 ?_
        exact vv_sub [0, 1, 2, 3, 5] (by rfl) (B_X2_classes_50 X r4 hr4 r23 hr23 _ _ _ _ _ _ _)
      · refine vv_iconst (pc := 45) X dX2_classes_45 ?_
        refine vv_goto (pc := 46) (tgt := 50) X dX2_classes_46 rfl ?_
        exact vv_sub [0, 1, 2, 3, 5] (by rfl) (B_X2_classes_50 X r4 hr4 r23 hr23 _ _ _ _ _ _ _)
theorem B_X2_classes_23 {M : hp_M} {G : va_G} {h0 : HP} (X : hp_X M G h0 "RenamedWords$Desk" "classes" cX2_classes 6 (some .int) [] 8 244) (r4 : Option Nat → Int → Int → Int → HP → Option ((Int) × HP)) (hr4 : ∀ (y0 : Option Nat) (y1 : Int) (y2 : Int) (y3 : Int) (h : HP), vv M G h0 6 (hp_End M G h0) jI h 4 [(0, LR y0), (1, LI y1), (2, LI y2), (3, LI y3)] [] (r4 y0 y1 y2 y3 h)) : ∀ (x0 : Option Nat) (x1 : Int) (x2 : Int) (x3 : Int) (x4 : Int) (x5 : Int) (h : HP), vv M G h0 6 (hp_End M G h0) jI h 23 [(0, LR x0), (1, LI x1), (2, LI x2), (3, LI x3), (4, LI x4), (5, LI x5)] [] (b_X2_classes_23 r4 x0 x1 x2 x3 x4 x5 h) := by
  unfold b_X2_classes_23
  generalize FU = n
  induction n with
  | zero => intro x0 x1 x2 x3 x4 x5 h; exact vv_none
  | succ n ih => exact C_X2_classes_23 X r4 hr4 _ ih
noncomputable def c_X2_classes_4 (r4 : Option Nat → Int → Int → Int → HP → Option ((Int) × HP)) (x0 : Option Nat) (x1 : Int) (x2 : Int) (x3 : Int) (h : HP) : Option ((Int) × HP) :=
  (rdR h x0 [1] 0).bind fun v1 =>
  (rdI h v1 [3] 3).bind fun v2 =>
  iLT v2 (x3 + x1)
    (some (x2, h))
    (b_X2_classes_23 r4 x0 x1 x2 x3 1 0 h)
noncomputable def b_X2_classes_4 : Option Nat → Int → Int → Int → HP → Option ((Int) × HP) := fx (fun _ _ _ _ _ => none) (c_X2_classes_4) FU
theorem C_X2_classes_4 {M : hp_M} {G : va_G} {h0 : HP} (X : hp_X M G h0 "RenamedWords$Desk" "classes" cX2_classes 6 (some .int) [] 8 244) (r4 : Option Nat → Int → Int → Int → HP → Option ((Int) × HP)) (hr4 : ∀ (y0 : Option Nat) (y1 : Int) (y2 : Int) (y3 : Int) (h : HP), vv M G h0 6 (hp_End M G h0) jI h 4 [(0, LR y0), (1, LI y1), (2, LI y2), (3, LI y3)] [] (r4 y0 y1 y2 y3 h)) (x0 : Option Nat) (x1 : Int) (x2 : Int) (x3 : Int) (h : HP) : vv M G h0 6 (hp_End M G h0) jI h 4 [(0, LR x0), (1, LI x1), (2, LI x2), (3, LI x3)] [] (c_X2_classes_4 r4 x0 x1 x2 x3 h) := by
  unfold c_X2_classes_4
  refine vv_iload_n (pc := 4) X (kf := 3) (i := 3) rfl 3 rfl dX2_classes_4 ?_
  refine vv_iload_n (pc := 5) X (kf := 1) (i := 1) rfl 1 rfl dX2_classes_5 ?_
  refine vv_iadd (pc := 6) X dX2_classes_6 ?_
  refine vv_aload_n (pc := 7) X (kf := 0) (i := 0) rfl 0 rfl dX2_classes_7 ?_
  refine vv_getR (pc := 8) X (fun _ z => by cases List.mem_singleton.mp z; exact fl_X2_12_1) dX2_classes_8 (fun v1 => ?_)
  refine vv_getI (pc := 11) X (fun _ z => by cases List.mem_singleton.mp z; exact fl_X2_123_3) dX2_classes_11 (fun v2 => ?_)
  refine vv_icmp_gt (pc := 14) (tgt := 72) X dX2_classes_14 rfl ?_ ?_
  · refine vv_iload_n (pc := 72) X (kf := 2) (i := 2) rfl 2 rfl dX2_classes_72 ?_
    exact vv_iretI X rfl rfl dX2_classes_73
  · refine vv_iconst (pc := 17) X dX2_classes_17 ?_
    refine vv_istore (pc := 18) (lv' := [(4, LI 1), (0, LR x0), (1, LI x1), (2, LI x2), (3, LI x3)]) X (by decide) rfl dX2_classes_18 ?_
    refine vv_iconst (pc := 20) X dX2_classes_20 ?_
    refine vv_istore (pc := 21) (lv' := [(5, LI 0), (4, LI 1), (0, LR x0), (1, LI x1), (2, LI x2), (3, LI x3)]) X (by decide) rfl dX2_classes_21 ?_
    exact vv_sub [2, 3, 4, 5, 1, 0] (by rfl) (B_X2_classes_23 X r4 hr4 _ _ _ _ _ _ _)
theorem B_X2_classes_4 {M : hp_M} {G : va_G} {h0 : HP} (X : hp_X M G h0 "RenamedWords$Desk" "classes" cX2_classes 6 (some .int) [] 8 244) : ∀ (x0 : Option Nat) (x1 : Int) (x2 : Int) (x3 : Int) (h : HP), vv M G h0 6 (hp_End M G h0) jI h 4 [(0, LR x0), (1, LI x1), (2, LI x2), (3, LI x3)] [] (b_X2_classes_4 x0 x1 x2 x3 h) := by
  unfold b_X2_classes_4
  generalize FU = n
  induction n with
  | zero => intro x0 x1 x2 x3 h; exact vv_none
  | succ n ih => exact C_X2_classes_4 X _ ih
noncomputable def f_X2_classes (a0 : Nat) (a1 : Int) (h : HP) : Option ((Int) × HP) :=
  b_X2_classes_4 (some a0) a1 0 0 h
theorem A_X2_classes {M : hp_M} {G : va_G} {h0 : HP} (X : hp_X M G h0 "RenamedWords$Desk" "classes" cX2_classes 6 (some .int) [] 8 244) (a0 : Nat) (a1 : Int) (h : HP) : vv M G h0 6 (hp_End M G h0) jI h 0 [(0, LR (some a0)), (1, LI a1)] [] (f_X2_classes a0 a1 h) := by
  unfold f_X2_classes
  refine vv_iconst (pc := 0) X dX2_classes_0 ?_
  refine vv_istore_n (pc := 1) (lv' := [(2, LI 0), (0, LR (some a0)), (1, LI a1)]) X (kf := 2) (i := 2) rfl (by decide) rfl dX2_classes_1 ?_
  refine vv_iconst (pc := 2) X dX2_classes_2 ?_
  refine vv_istore_n (pc := 3) (lv' := [(3, LI 0), (2, LI 0), (0, LR (some a0)), (1, LI a1)]) X (kf := 3) (i := 3) rfl (by decide) rfl dX2_classes_3 ?_
  exact vv_sub [2, 3, 1, 0] (by rfl) (B_X2_classes_4 X _ _ _ _ _)
theorem m_X2_classes {l : Launch} (hl : l.stackTraces = false) {G : va_G} (a0 : Nat) (a1 : Int) (h : HP) : ∀ r hf, f_X2_classes a0 a1 h = some (r, hf) → Ct l yX2_classes (ws_ yX2_classes cX2_classes 6 (some .int)) 8 244 G h [.ref a0, .int (iI a1)] (jI r) hf :=
  zz_ofW hl (by decide +kernel) (lv := [(0, LR (some a0)), (1, LI a1)]) (by simp [lv_args, lvL, lvV, zz_rfc, zz_rfs, zz_ci, zz_cr, zz_cj, zz_cf, zz_cd]) (by simp [lg_sl, zz_rfc, zz_ci, zz_cr, zz_cj, zz_cf, zz_cd]) (fun _ X => A_X2_classes X a0 a1 h)
-- X1_classes RenamedWords.classes(I)I
noncomputable def f_X1_classes (a0 : Nat) (a1 : Int) (h : HP) : Option ((Nat ⊕ Int) × HP) :=
  hb (f_X1_in (iL a1) 1 (200 : Int64) h) fun v1 h2 =>
  hbx (f_X1_argument v1 h2) (fun q5 h6 =>
      some (.inl q5, h6)) fun _ h4 =>
  (rdR h4 (some a0) [0] 0).bind fun v7 =>
  (rcv h4 v7 [1]).bind fun b10 =>
  hb (f_X2_classes b10 a1 h4) fun v8 h9 =>
  some (.inr v8, h9)
theorem A_X1_classes {M : hp_M} {G : va_G} {h0 : HP} (X : hp_X M G h0 "RenamedWords" "classes" cX1_classes 2 (some .int) [] 9 277) (a0 : Nat) (a1 : Int) (h : HP) : vv M G h0 2 (hp_End M G h0) xI h 0 [(0, LR (some a0)), (1, LI a1)] [] (f_X1_classes a0 a1 h) := by
  unfold f_X1_classes
  refine vv_iload_n (pc := 0) X (kf := 1) (i := 1) rfl 1 rfl dX1_classes_0 ?_
  refine vv_i2l (pc := 1) X dX1_classes_1 ?_
  refine vv_lconst (pc := 2) (v := 1) X (by decide) dX1_classes_2 ?_
  refine vv_ldc2 (pc := 3) X q3088 dX1_classes_3 ?_
  refine vv_callI (pc := 6) (rest := []) (by rfl) (fun r8 k8 e8 => zz_callS X (m_X1_in (hlM X) _ _ _ _ _ _ e8) q2984 q873 q132 q874 nh_X1 rfl (by decide) (by decide) (Nat.le_of_ble_eq_true rfl) dX1_classes_6) (fun v1 h2 => ?_)
  refine vv_xallV (pc := 9) (rest := []) (by rfl) (fun r8 k8 e8 => zz_callS X (m_X1_argument (hlM X) _ _ _ _ e8) q3090 q3091 q132 q3092 nh_X1 rfl (by decide) (by decide) (Nat.le_of_ble_eq_true rfl) dX1_classes_9) (fun v3 h4 => ?_) (fun q5 h6 => ?_)
  · refine vv_aload_n (pc := 12) X (kf := 0) (i := 0) rfl 0 rfl dX1_classes_12 ?_
    refine vv_getR (pc := 13) X (fun _ z => by cases List.mem_singleton.mp z; exact fl_X1_35_0) dX1_classes_13 (fun v7 => ?_)
    refine vv_iload_n (pc := 16) X (kf := 1) (i := 1) rfl 1 rfl dX1_classes_16 ?_
    refine vv_rcv (fun b10 t9 c9 fs9 e11 g9 k9 => ?_)
    cases List.mem_singleton.mp k9
    refine vv_callI (pc := 17) (rest := []) (by rw [e11]; rfl) (fun r8 k8 e8 => zz_callV X (m_X2_classes (hlM X) _ _ _ _ _ e8) g9 rfl rfl q3298 q3299 q3300 q133 q3301 nh_X2 rfl (by decide) (by decide) (Nat.le_of_ble_eq_true rfl) dX1_classes_17) (fun v8 h9 => ?_)
    exact vv_iretI X rfl rfl dX1_classes_20
  · exact vvx_out X (by decide) rfl
theorem m_X1_classes {l : Launch} (hl : l.stackTraces = false) {G : va_G} (a0 : Nat) (a1 : Int) (h : HP) : ∀ r hf, f_X1_classes a0 a1 h = some (r, hf) → Ct l yX1_classes (ws_ yX1_classes cX1_classes 2 (some .int)) 9 277 G h [.ref a0, .int (iI a1)] (xI r) hf :=
  zz_ofW hl (by decide +kernel) (lv := [(0, LR (some a0)), (1, LI a1)]) (by simp [lv_args, lvL, lvV, zz_rfc, zz_rfs, zz_ci, zz_cr, zz_cj, zz_cf, zz_cd]) (by simp [lg_sl, zz_rfc, zz_ci, zz_cr, zz_cj, zz_cf, zz_cd]) (fun _ X => A_X1_classes X a0 a1 h)
-- X0_classes RenamedWordsLaw.classes(LRenamedWords;I[J)I
noncomputable def b_X0_classes_12 (s0 : Option Nat) (h : HP) : Option ((Int) × HP) :=
  some (1, h)
theorem B_X0_classes_12 {M : hp_M} {G : va_G} {h0 : HP} (X : hp_X M G h0 "RenamedWordsLaw" "classes" cX0_classes 4 (some .int) (tableOf [(0, 9, 12, 13)]) 10 306) (s0 : Option Nat) (h : HP) : vv M G h0 4 (hp_End M G h0) jI h 12 [] [LR s0] (b_X0_classes_12 s0 h) := by
  unfold b_X0_classes_12
  refine vv_astore_n (pc := 12) (lv' := [(3, LR s0)]) X (kf := 3) (i := 3) rfl (by decide) rfl dX0_classes_12 ?_
  refine vv_iconst (pc := 13) X dX0_classes_13 ?_
  exact vv_iretI X rfl rfl dX0_classes_14
noncomputable def f_X0_classes (a1 : Option Nat) (a2 : Int) (a3 : Option Nat) (h : HP) : Option ((Int) × HP) :=
  (rcv h a1 [0]).bind fun b3 =>
  hbx (f_X1_classes b3 a2 h) (fun q5 h6 =>
      (clsOf h6 q5).bind fun c7 =>
      if c7 = 36 then
        b_X0_classes_12 (some q5) h6
      else
        none) fun v1 h2 =>
  (astJ h2 a3 0 (iL v1)).bind fun h8 =>
  some (0, h8)
theorem A_X0_classes {M : hp_M} {G : va_G} {h0 : HP} (X : hp_X M G h0 "RenamedWordsLaw" "classes" cX0_classes 4 (some .int) (tableOf [(0, 9, 12, 13)]) 10 306) (a1 : Option Nat) (a2 : Int) (a3 : Option Nat) (h : HP) : vv M G h0 4 (hp_End M G h0) jI h 0 [(0, LR a1), (1, LI a2), (2, LR a3)] [] (f_X0_classes a1 a2 a3 h) := by
  unfold f_X0_classes
  refine vv_aload_n (pc := 0) X (kf := 2) (i := 2) rfl 2 rfl dX0_classes_0 ?_
  refine vv_iconst (pc := 1) X dX0_classes_1 ?_
  refine vv_aload_n (pc := 2) X (kf := 0) (i := 0) rfl 0 rfl dX0_classes_2 ?_
  refine vv_iload_n (pc := 3) X (kf := 1) (i := 1) rfl 1 rfl dX0_classes_3 ?_
  refine vv_rcv (fun b3 t9 c9 fs9 e4 g9 k9 => ?_)
  cases List.mem_singleton.mp k9
  refine vv_xallI (pc := 4) (rest := [LI 0, LR a3]) (by rw [e4]; rfl) (fun r8 k8 e8 => zz_callV X (m_X1_classes (hlM X) _ _ _ _ _ e8) g9 rfl rfl q3294 q3295 q3296 q132 q3297 nh_X1 rfl (by decide) (by decide) (Nat.le_of_ble_eq_true rfl) dX0_classes_4) (fun v1 h2 => ?_) (fun q5 h6 => ?_)
  · refine vv_i2l (pc := 7) X dX0_classes_7 ?_
    refine vv_lastore (pc := 8) X dX0_classes_8 (fun h8 => ?_)
    refine vv_goto (pc := 9) (tgt := 15) X dX0_classes_9 rfl ?_
    refine vv_iconst (pc := 15) X dX0_classes_15 ?_
    exact vv_iretI X rfl rfl dX0_classes_16
  · refine vvx_cls (fun _ c7 _ g9 => ?_)
    refine vvx_if (fun e9 => ?_) (fun _ => ?_)
    · subst e9
      refine vvx_catch X g9 rfl [] ⟨0, 9, 12, 13⟩ [] rfl (fun z hz => nomatch hz) rfl (by decide) q3013 q275 ?_
      exact vv_sub [] (by rfl) (B_X0_classes_12 X _ _)
    · exact vvx_none
theorem m_X0_classes {l : Launch} (hl : l.stackTraces = false) {G : va_G} (a1 : Option Nat) (a2 : Int) (a3 : Option Nat) (h : HP) : ∀ r hf, f_X0_classes a1 a2 a3 h = some (r, hf) → Ct l yX0_classes (wsW_ yX0_classes cX0_classes 4 (some .int) [(0, 9, 12, 13)]) 10 306 G h [va_rf a1, .int (iI a2), va_rf a3] (jI r) hf :=
  zz_ofWH hl (by decide +kernel) (lv := [(0, LR a1), (1, LI a2), (2, LR a3)]) (by simp [lv_args, lvL, lvV, zz_rfc, zz_rfs, zz_ci, zz_cr, zz_cj, zz_cf, zz_cd]) (by simp [lg_sl, zz_rfc, zz_ci, zz_cr, zz_cj, zz_cf, zz_cd]) (fun _ X => A_X0_classes X a1 a2 a3 h)
