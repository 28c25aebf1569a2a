/-! STAGE 1c: functions and contracts (printed by gen/mkfuncs.py). -/
set_option maxRecDepth 100000
set_option linter.unusedVariables false
-- law, piece
noncomputable def f_L_law (a1 : Option Nat) (h : HP) : Option ((Int) × HP) :=
  hb (nwO h (hp_n h + 2) 0 [.inr (.inl none), .inr (.inl none), .inr (.inl none), .inr (.inl none), .inr (.inl none), .inl 0, .inl 0, .inl 0, .inr (.inl none)] 9) fun v1 h2 =>
  (v1).bind fun b5 =>
  hb (f_X1_init b5 h2) fun _ h4 =>
  hb (nwO h4 (hp_n h4 + 2) 7 [.inr (.inl none), .inr (.inl none), .inr (.inl none), .inr (.inl none), .inr (.inl none), .inr (.inl none), .inl 0, .inl 0, .inr (.inl none), .inr (.inl none), .inr (.inl none), .inr (.inl none), .inl 0, .inl 0, .inl 0, .inl 0, .inl 0, .inl 0, .inl 0, .inl 0, .inl 0, .inl 0, .inr (.inl none), .inr (.inl none), .inr (.inl none), .inr (.inl none), .inr (.inl none), .inr (.inl none), .inr (.inl none), .inl 0, .inl 0, .inl 0, .inr (.inl none), .inl 0] 34) fun v7 h8 =>
  (v7).bind fun b11 =>
  hb (f_X9_init b11 h8) fun _ h10 =>
  hb (nwJ h10 0 1) fun v13 h14 =>
  b_L_law_23 a1 v1 v7 v13 0 h14
-- law, piece
theorem A_L_law {M : hp_M} {G : va_G} {h0 : HP} (X : hp_X M G h0 "RenamedWordsLaw" "law" cL_law 9 (some .boolean) [] 8192 104096) (a1 : Option Nat) (h : HP) : vv M G h0 9 (hp_End M G h0) jI h 0 [(0, LR a1)] [] (f_L_law a1 h) := by
  unfold f_L_law
  refine vv_new (pc := 0) X tyX1 rfl in_X1 tyX1_ok q206 q207 q132 ndX1 (by decide) dL_law_0 (fun v1 h2 => ?_)
  refine vv_dup (pc := 3) X rfl dL_law_3 ?_
  refine vv_bnd (fun b5 e6 => ?_)
  refine vv_callV (pc := 4) (rest := [LR v1]) (by rw [e6]; rfl) (fun r8 k8 e8 => zz_callI X (m_X1_init (hlM X) _ _ _ _ e8) q208 q209 q132 q210 rfl nh_X1 rfl (by decide) (by decide) (Nat.le_of_ble_eq_true rfl) dL_law_4) (fun v3 h4 => ?_)
  refine vv_astore_n (pc := 7) (lv' := [(1, LR v1), (0, LR a1)]) X (kf := 1) (i := 1) rfl (by decide) rfl dL_law_7 ?_
  refine vv_new (pc := 8) X tyX9 rfl in_X9 tyX9_ok q3438 q3439 q164 ndX9 (by decide) dL_law_8 (fun v7 h8 => ?_)
  refine vv_dup (pc := 11) X rfl dL_law_11 ?_
  refine vv_bnd (fun b11 e12 => ?_)
  refine vv_callV (pc := 12) (rest := [LR v7]) (by rw [e12]; rfl) (fun r8 k8 e8 => zz_callI X (m_X9_init (hlM X) _ _ _ _ e8) q3440 q3441 q164 q3442 rfl nh_X9 rfl (by decide) (by decide) (Nat.le_of_ble_eq_true rfl) dL_law_12) (fun v9 h10 => ?_)
  refine vv_astore_n (pc := 15) (lv' := [(2, LR v7), (1, LR v1), (0, LR a1)]) X (kf := 2) (i := 2) rfl (by decide) rfl dL_law_15 ?_
  refine vv_iconst (pc := 16) X dL_law_16 ?_
  refine vv_newlong (pc := 17) X dL_law_17 (fun v13 h14 => ?_)
  refine vv_astore_n (pc := 19) (lv' := [(3, LR v13), (2, LR v7), (1, LR v1), (0, LR a1)]) X (kf := 3) (i := 3) rfl (by decide) rfl dL_law_19 ?_
  refine vv_iconst (pc := 20) X dL_law_20 ?_
  refine vv_istore (pc := 21) (lv' := [(4, LI 0), (3, LR v13), (2, LR v7), (1, LR v1), (0, LR a1)]) X (by decide) rfl dL_law_21 ?_
  exact vv_sub [4, 3, 2, 1, 0] (by rfl) (B_L_law_23 X _ _ _ _ _ _)
