/-! STAGE 1c: functions and contracts (printed by gen/mkfuncs.py). -/
set_option maxRecDepth 100000
set_option linter.unusedVariables false
-- J22_push java/util/ArrayDeque.push(Ljava/lang/Object;)V
noncomputable def f_J22_push (a0 : Nat) (a1 : Option Nat) (h : HP) : Option ((Unit) × HP) :=
  (rcv h (some a0) [29]).bind fun b3 =>
  hb (f_J22_addFirst b3 a1 h) fun _ h2 =>
  some ((), h2)
theorem A_J22_push {M : hp_M} {G : va_G} {h0 : HP} (X : hp_X M G h0 "java/util/ArrayDeque" "push" cJ22_push 2 none [] 2 59) (a0 : Nat) (a1 : Option Nat) (h : HP) : vv M G h0 2 (hp_End M G h0) jV h 0 [(0, LR (some a0)), (1, LR a1)] [] (f_J22_push a0 a1 h) := by
  unfold f_J22_push
  refine vv_aload_n (pc := 0) X (kf := 0) (i := 0) rfl 0 rfl dJ22_push_0 ?_
  refine vv_aload_n (pc := 1) X (kf := 1) (i := 1) rfl 1 rfl dJ22_push_1 ?_
  refine vv_rcv (fun b3 t9 c9 fs9 e4 g9 k9 => ?_)
  cases List.mem_singleton.mp k9
  refine vv_callV (pc := 2) (rest := []) (by rw [e4]; rfl) (fun r8 k8 e8 => zz_callV X (m_J22_addFirst (hlM X) _ _ _ _ _ e8) g9 rfl rfl q2446 q2447 q2448 q163 q2449 nh_J22 rfl (by decide) (by decide) (Nat.le_of_ble_eq_true rfl) dJ22_push_2) (fun v1 h2 => ?_)
  exact vv_vreturn X rfl rfl dJ22_push_5
theorem m_J22_push {l : Launch} (hl : l.stackTraces = false) {G : va_G} (a0 : Nat) (a1 : Option Nat) (h : HP) : ∀ r hf, f_J22_push a0 a1 h = some (r, hf) → Ct l yJ22_push (ws_ yJ22_push cJ22_push 2 none) 2 59 G h [.ref a0, va_rf a1] (jV r) hf :=
  zz_ofW hl (by decide +kernel) (lv := [(0, LR (some a0)), (1, LR a1)]) (by simp [lv_args, lvL, lvV, zz_rfc, zz_rfs, zz_ci, zz_cr, zz_cj, zz_cf, zz_cd]) (by simp [lg_sl, zz_rfc, zz_ci, zz_cr, zz_cj, zz_cf, zz_cd]) (fun _ X => A_J22_push X a0 a1 h)
-- X1_act RenamedWords.act(LRenamedWords$Desk;)V
noncomputable def b_X1_act_37 (h : HP) : Option ((Unit) × HP) :=
  some ((), h)
theorem B_X1_act_37 {M : hp_M} {G : va_G} {h0 : HP} (X : hp_X M G h0 "RenamedWords" "act" cX1_act 2 none [] 4 119) (h : HP) : vv M G h0 2 (hp_End M G h0) jV h 37 [] [] (b_X1_act_37 h) := by
  unfold b_X1_act_37
  exact vv_vreturn X rfl rfl dX1_act_37
noncomputable def f_X1_act (a0 : Nat) (a1 : Option Nat) (h : HP) : Option ((Unit) × HP) :=
  (rdR h (some a0) [0] 1).bind fun v1 =>
  (rcv h v1 [28]).bind fun b4 =>
  hb (f_J21_addLast b4 a1 h) fun _ h3 =>
  (rdR h3 (some a0) [0] 1).bind fun v6 =>
  (rcv h3 v6 [28]).bind fun b9 =>
  hb (f_J21_size b9 h3) fun v7 h8 =>
  iLE v7 8
    (b_X1_act_37 h8)
    ((rdR h8 (some a0) [0] 2).bind fun v11 =>
    (rdR h8 (some a0) [0] 1).bind fun v12 =>
    (rcv h8 v12 [28]).bind fun b15 =>
    hb (f_J21_removeFirst b15 h8) fun v13 h14 =>
    (chk h14 v13 [1]).bind fun _ =>
    (rcv h14 v11 [29]).bind fun b19 =>
    hb (f_J22_push b19 v13 h14) fun _ h18 =>
    b_X1_act_37 h18)
theorem A_X1_act {M : hp_M} {G : va_G} {h0 : HP} (X : hp_X M G h0 "RenamedWords" "act" cX1_act 2 none [] 4 119) (a0 : Nat) (a1 : Option Nat) (h : HP) : vv M G h0 2 (hp_End M G h0) jV h 0 [(0, LR (some a0)), (1, LR a1)] [] (f_X1_act a0 a1 h) := by
  unfold f_X1_act
  refine vv_aload_n (pc := 0) X (kf := 0) (i := 0) rfl 0 rfl dX1_act_0 ?_
  refine vv_getR (pc := 1) X (fun _ z => by cases List.mem_singleton.mp z; exact fl_X1_42_0) dX1_act_1 (fun v1 => ?_)
  refine vv_aload_n (pc := 4) X (kf := 1) (i := 1) rfl 1 rfl dX1_act_4 ?_
  refine vv_rcv (fun b4 t9 c9 fs9 e5 g9 k9 => ?_)
  cases List.mem_singleton.mp k9
  refine vv_callV (pc := 5) (rest := []) (by rw [e5]; rfl) (fun r8 k8 e8 => zz_callV X (m_J21_addLast (hlM X) _ _ _ _ _ e8) g9 rfl rfl q2430 q2116 q2117 q162 q2118 nh_J21 rfl (by decide) (by decide) (Nat.le_of_ble_eq_true rfl) dX1_act_5) (fun v2 h3 => ?_)
  refine vv_aload_n (pc := 8) X (kf := 0) (i := 0) rfl 0 rfl dX1_act_8 ?_
  refine vv_getR (pc := 9) X (fun _ z => by cases List.mem_singleton.mp z; exact fl_X1_42_0) dX1_act_9 (fun v6 => ?_)
  refine vv_rcv (fun b9 t9 c9 fs9 e10 g9 k9 => ?_)
  cases List.mem_singleton.mp k9
  refine vv_callI (pc := 12) (rest := []) (by rw [e10]; rfl) (fun r8 k8 e8 => zz_callV X (m_J21_size (hlM X) _ _ _ _ e8) g9 rfl rfl q2431 q1130 q4109 q162 q1132 nh_J21 rfl (by decide) (by decide) (Nat.le_of_ble_eq_true rfl) dX1_act_12) (fun v7 h8 => ?_)
  refine vv_bipush (pc := 15) X (by decide) dX1_act_15 ?_
  refine vv_icmp_le (pc := 17) (tgt := 37) X dX1_act_17 rfl ?_ ?_
  · exact vv_sub [] (by rfl) (B_X1_act_37 X _)
  · refine vv_aload_n (pc := 20) X (kf := 0) (i := 0) rfl 0 rfl dX1_act_20 ?_
    refine vv_getR (pc := 21) X (fun _ z => by cases List.mem_singleton.mp z; exact fl_X1_49_0) dX1_act_21 (fun v11 => ?_)
    refine vv_aload_n (pc := 24) X (kf := 0) (i := 0) rfl 0 rfl dX1_act_24 ?_
    refine vv_getR (pc := 25) X (fun _ z => by cases List.mem_singleton.mp z; exact fl_X1_42_0) dX1_act_25 (fun v12 => ?_)
    refine vv_rcv (fun b15 t9 c9 fs9 e16 g9 k9 => ?_)
    cases List.mem_singleton.mp k9
    refine vv_callR (pc := 28) (rest := [LR v11]) (by rw [e16]; rfl) (fun r8 k8 e8 => zz_callV X (m_J21_removeFirst (hlM X) _ _ _ _ e8) g9 rfl rfl q2432 q2433 q2434 q162 q2435 nh_J21 rfl (by decide) (by decide) (Nat.le_of_ble_eq_true rfl) dX1_act_28) (fun v13 h14 => ?_)
    refine vv_checkcast (pc := 31) X ⟨q217, (fun _ z => by cases List.mem_singleton.mp z; exact ⟨_, rfl, Or.inl rfl⟩)⟩ dX1_act_31 ?_
    refine vv_rcv (fun b19 t9 c9 fs9 e20 g9 k9 => ?_)
    cases List.mem_singleton.mp k9
    refine vv_callV (pc := 34) (rest := []) (by rw [e20]; rfl) (fun r8 k8 e8 => zz_callV X (m_J22_push (hlM X) _ _ _ _ _ e8) g9 rfl rfl q2442 q2443 q2444 q163 q2445 nh_J22 rfl (by decide) (by decide) (Nat.le_of_ble_eq_true rfl) dX1_act_34) (fun v17 h18 => ?_)
    exact vv_sub [] (by rfl) (B_X1_act_37 X _)
theorem m_X1_act {l : Launch} (hl : l.stackTraces = false) {G : va_G} (a0 : Nat) (a1 : Option Nat) (h : HP) : ∀ r hf, f_X1_act a0 a1 h = some (r, hf) → Ct l yX1_act (ws_ yX1_act cX1_act 2 none) 4 119 G h [.ref a0, va_rf a1] (jV r) hf :=
  zz_ofW hl (by decide +kernel) (lv := [(0, LR (some a0)), (1, LR a1)]) (by simp [lv_args, lvL, lvV, zz_rfc, zz_rfs, zz_ci, zz_cr, zz_cj, zz_cf, zz_cd]) (by simp [lg_sl, zz_rfc, zz_ci, zz_cr, zz_cj, zz_cf, zz_cd]) (fun _ X => A_X1_act X a0 a1 h)
-- J4_rangeCheckForAdd java/util/ArrayList.rangeCheckForAdd(I)V
noncomputable def b_J4_rangeCheckForAdd_12 (h : HP) : Option ((Unit) × HP) :=
  none
theorem B_J4_rangeCheckForAdd_12 {M : hp_M} {G : va_G} {h0 : HP} (X : hp_X M G h0 "java/util/ArrayList" "rangeCheckForAdd" cJ4_rangeCheckForAdd 2 none [] 0 0) (h : HP) : vv M G h0 2 (hp_End M G h0) jV h 12 [] [] (b_J4_rangeCheckForAdd_12 h) := by
  unfold b_J4_rangeCheckForAdd_12
  exact vv_none
noncomputable def f_J4_rangeCheckForAdd (a0 : Nat) (a1 : Int) (h : HP) : Option ((Unit) × HP) :=
  (rdI h (some a0) [24] 2).bind fun v1 =>
  iLT v1 a1
    (b_J4_rangeCheckForAdd_12 h)
    (iLE 0 a1
      (some ((), h))
      (b_J4_rangeCheckForAdd_12 h))
theorem A_J4_rangeCheckForAdd {M : hp_M} {G : va_G} {h0 : HP} (X : hp_X M G h0 "java/util/ArrayList" "rangeCheckForAdd" cJ4_rangeCheckForAdd 2 none [] 0 0) (a0 : Nat) (a1 : Int) (h : HP) : vv M G h0 2 (hp_End M G h0) jV h 0 [(0, LR (some a0)), (1, LI a1)] [] (f_J4_rangeCheckForAdd a0 a1 h) := by
  unfold f_J4_rangeCheckForAdd
  refine vv_iload_n (pc := 0) X (kf := 1) (i := 1) rfl 1 rfl dJ4_rangeCheckForAdd_0 ?_
  refine vv_aload_n (pc := 1) X (kf := 0) (i := 0) rfl 0 rfl dJ4_rangeCheckForAdd_1 ?_
  refine vv_getI (pc := 2) X (fun _ z => by cases List.mem_singleton.mp z; exact fl_J4_48_24) dJ4_rangeCheckForAdd_2 (fun v1 => ?_)
  refine vv_icmp_gt (pc := 5) (tgt := 12) X dJ4_rangeCheckForAdd_5 rfl ?_ ?_
  · exact vv_sub [] (by rfl) (B_J4_rangeCheckForAdd_12 X _)
  · refine vv_iload_n (pc := 8) X (kf := 1) (i := 1) rfl 1 rfl dJ4_rangeCheckForAdd_8 ?_
    refine vv_if_ge (pc := 9) (tgt := 25) X dJ4_rangeCheckForAdd_9 rfl ?_ ?_
    · exact vv_vreturn X rfl rfl dJ4_rangeCheckForAdd_25
    · exact vv_sub [] (by rfl) (B_J4_rangeCheckForAdd_12 X _)
theorem m_J4_rangeCheckForAdd {l : Launch} (hl : l.stackTraces = false) {G : va_G} (a0 : Nat) (a1 : Int) (h : HP) : ∀ r hf, f_J4_rangeCheckForAdd a0 a1 h = some (r, hf) → Ct l yJ4_rangeCheckForAdd (ws_ yJ4_rangeCheckForAdd cJ4_rangeCheckForAdd 2 none) 0 0 G h [.ref a0, .int (iI a1)] (jV r) hf :=
  zz_ofW hl (by decide +kernel) (lv := [(0, LR (some a0)), (1, LI a1)]) (by simp [lv_args, lvL, lvV, zz_rfc, zz_rfs, zz_ci, zz_cr, zz_cj, zz_cf, zz_cd]) (by simp [lg_sl, zz_rfc, zz_ci, zz_cr, zz_cj, zz_cf, zz_cd]) (fun _ X => A_J4_rangeCheckForAdd X a0 a1 h)
-- J4_listIterator java/util/ArrayList.listIterator(I)Ljava/util/ListIterator;
noncomputable def f_J4_listIterator (a0 : Nat) (a1 : Int) (h : HP) : Option ((Option Nat) × HP) :=
  (rcv h (some a0) [24]).bind fun b3 =>
  hb (f_J4_rangeCheckForAdd b3 a1 h) fun _ h2 =>
  none
theorem A_J4_listIterator {M : hp_M} {G : va_G} {h0 : HP} (X : hp_X M G h0 "java/util/ArrayList" "listIterator" cJ4_listIterator 2 (some (.object "java/util/ListIterator")) [] 1 29) (a0 : Nat) (a1 : Int) (h : HP) : vv M G h0 2 (hp_End M G h0) jR h 0 [(0, LR (some a0)), (1, LI a1)] [] (f_J4_listIterator a0 a1 h) := by
  unfold f_J4_listIterator
  refine vv_aload_n (pc := 0) X (kf := 0) (i := 0) rfl 0 rfl dJ4_listIterator_0 ?_
  refine vv_iload_n (pc := 1) X (kf := 1) (i := 1) rfl 1 rfl dJ4_listIterator_1 ?_
  refine vv_rcv (fun b3 t9 c9 fs9 e4 g9 k9 => ?_)
  cases List.mem_singleton.mp k9
  refine vv_callV (pc := 2) (rest := []) (by rw [e4]; rfl) (fun r8 k8 e8 => zz_callV X (m_J4_rangeCheckForAdd (hlM X) _ _ _ _ _ e8) g9 rfl rfl q2487 q2489 qs31 q139 q2490 nh_J4 rfl (by decide) (by decide) (Nat.le_of_ble_eq_true rfl) dJ4_listIterator_2) (fun v1 h2 => ?_)
  exact vv_none
theorem m_J4_listIterator {l : Launch} (hl : l.stackTraces = false) {G : va_G} (a0 : Nat) (a1 : Int) (h : HP) : ∀ r hf, f_J4_listIterator a0 a1 h = some (r, hf) → Ct l yJ4_listIterator (ws_ yJ4_listIterator cJ4_listIterator 2 (some (.object "java/util/ListIterator"))) 1 29 G h [.ref a0, .int (iI a1)] (jR r) hf :=
  zz_ofW hl (by decide +kernel) (lv := [(0, LR (some a0)), (1, LI a1)]) (by simp [lv_args, lvL, lvV, zz_rfc, zz_rfs, zz_ci, zz_cr, zz_cj, zz_cf, zz_cd]) (by simp [lg_sl, zz_rfc, zz_ci, zz_cr, zz_cj, zz_cf, zz_cd]) (fun _ X => A_J4_listIterator X a0 a1 h)
-- J21_isPositionIndex java/util/LinkedList.isPositionIndex(I)Z
noncomputable def b_J21_isPositionIndex_17 (s0 : Int) (h : HP) : Option ((Int) × HP) :=
  rtZ s0 (some (s0, h))
theorem B_J21_isPositionIndex_17 {M : hp_M} {G : va_G} {h0 : HP} (X : hp_X M G h0 "java/util/LinkedList" "isPositionIndex" cJ21_isPositionIndex 2 (some .boolean) [] 0 0) (s0 : Int) (h : HP) : vv M G h0 2 (hp_End M G h0) jI h 17 [] [LI s0] (b_J21_isPositionIndex_17 s0 h) := by
  unfold b_J21_isPositionIndex_17
  exact vv_iretZ X rfl rfl dJ21_isPositionIndex_17
noncomputable def b_J21_isPositionIndex_16 (h : HP) : Option ((Int) × HP) :=
  b_J21_isPositionIndex_17 0 h
theorem B_J21_isPositionIndex_16 {M : hp_M} {G : va_G} {h0 : HP} (X : hp_X M G h0 "java/util/LinkedList" "isPositionIndex" cJ21_isPositionIndex 2 (some .boolean) [] 0 0) (h : HP) : vv M G h0 2 (hp_End M G h0) jI h 16 [] [] (b_J21_isPositionIndex_16 h) := by
  unfold b_J21_isPositionIndex_16
  refine vv_iconst (pc := 16) X dJ21_isPositionIndex_16 ?_
  exact B_J21_isPositionIndex_17 X _ _
noncomputable def f_J21_isPositionIndex (a0 : Nat) (a1 : Int) (h : HP) : Option ((Int) × HP) :=
  iLT a1 0
    (b_J21_isPositionIndex_16 h)
    ((rdI h (some a0) [28] 1).bind fun v1 =>
    iLT v1 a1
      (b_J21_isPositionIndex_16 h)
      (b_J21_isPositionIndex_17 1 h))
theorem A_J21_isPositionIndex {M : hp_M} {G : va_G} {h0 : HP} (X : hp_X M G h0 "java/util/LinkedList" "isPositionIndex" cJ21_isPositionIndex 2 (some .boolean) [] 0 0) (a0 : Nat) (a1 : Int) (h : HP) : vv M G h0 2 (hp_End M G h0) jI h 0 [(0, LR (some a0)), (1, LI a1)] [] (f_J21_isPositionIndex a0 a1 h) := by
  unfold f_J21_isPositionIndex
  refine vv_iload_n (pc := 0) X (kf := 1) (i := 1) rfl 1 rfl dJ21_isPositionIndex_0 ?_
  refine vv_if_lt (pc := 1) (tgt := 16) X dJ21_isPositionIndex_1 rfl ?_ ?_
  · exact vv_sub [] (by rfl) (B_J21_isPositionIndex_16 X _)
  · refine vv_iload_n (pc := 4) X (kf := 1) (i := 1) rfl 1 rfl dJ21_isPositionIndex_4 ?_
    refine vv_aload_n (pc := 5) X (kf := 0) (i := 0) rfl 0 rfl dJ21_isPositionIndex_5 ?_
    refine vv_getI (pc := 6) X (fun _ z => by cases List.mem_singleton.mp z; exact fl_J21_7_28) dJ21_isPositionIndex_6 (fun v1 => ?_)
    refine vv_icmp_gt (pc := 9) (tgt := 16) X dJ21_isPositionIndex_9 rfl ?_ ?_
    · exact vv_sub [] (by rfl) (B_J21_isPositionIndex_16 X _)
    · refine vv_iconst (pc := 12) X dJ21_isPositionIndex_12 ?_
      refine vv_goto (pc := 13) (tgt := 17) X dJ21_isPositionIndex_13 rfl ?_
      exact vv_sub [] (by rfl) (B_J21_isPositionIndex_17 X _ _)
theorem m_J21_isPositionIndex {l : Launch} (hl : l.stackTraces = false) {G : va_G} (a0 : Nat) (a1 : Int) (h : HP) : ∀ r hf, f_J21_isPositionIndex a0 a1 h = some (r, hf) → Ct l yJ21_isPositionIndex (ws_ yJ21_isPositionIndex cJ21_isPositionIndex 2 (some .boolean)) 0 0 G h [.ref a0, .int (iI a1)] (jI r) hf :=
  zz_ofW hl (by decide +kernel) (lv := [(0, LR (some a0)), (1, LI a1)]) (by simp [lv_args, lvL, lvV, zz_rfc, zz_rfs, zz_ci, zz_cr, zz_cj, zz_cf, zz_cd]) (by simp [lg_sl, zz_rfc, zz_ci, zz_cr, zz_cj, zz_cf, zz_cd]) (fun _ X => A_J21_isPositionIndex X a0 a1 h)
-- J21_checkPositionIndex java/util/LinkedList.checkPositionIndex(I)V
noncomputable def f_J21_checkPositionIndex (a0 : Nat) (a1 : Int) (h : HP) : Option ((Unit) × HP) :=
  (rcv h (some a0) [28]).bind fun b3 =>
  hb (f_J21_isPositionIndex b3 a1 h) fun v1 h2 =>
  iEQ v1 0
    (none)
    (some ((), h2))
theorem A_J21_checkPositionIndex {M : hp_M} {G : va_G} {h0 : HP} (X : hp_X M G h0 "java/util/LinkedList" "checkPositionIndex" cJ21_checkPositionIndex 2 none [] 1 29) (a0 : Nat) (a1 : Int) (h : HP) : vv M G h0 2 (hp_End M G h0) jV h 0 [(0, LR (some a0)), (1, LI a1)] [] (f_J21_checkPositionIndex a0 a1 h) := by
  unfold f_J21_checkPositionIndex
  refine vv_aload_n (pc := 0) X (kf := 0) (i := 0) rfl 0 rfl dJ21_checkPositionIndex_0 ?_
  refine vv_iload_n (pc := 1) X (kf := 1) (i := 1) rfl 1 rfl dJ21_checkPositionIndex_1 ?_
  refine vv_rcv (fun b3 t9 c9 fs9 e4 g9 k9 => ?_)
  cases List.mem_singleton.mp k9
  refine vv_callI (pc := 2) (rest := []) (by rw [e4]; rfl) (fun r8 k8 e8 => zz_callV X (m_J21_isPositionIndex (hlM X) _ _ _ _ _ e8) g9 rfl rfl q2533 q2535 qs34 q162 q2536 nh_J21 rfl (by decide) (by decide) (Nat.le_of_ble_eq_true rfl) dJ21_checkPositionIndex_2) (fun v1 h2 => ?_)
  refine vv_if_ne (pc := 5) (tgt := 21) X dJ21_checkPositionIndex_5 rfl ?_ ?_
  · exact vv_vreturn X rfl rfl dJ21_checkPositionIndex_21
  · exact vv_none
theorem m_J21_checkPositionIndex {l : Launch} (hl : l.stackTraces = false) {G : va_G} (a0 : Nat) (a1 : Int) (h : HP) : ∀ r hf, f_J21_checkPositionIndex a0 a1 h = some (r, hf) → Ct l yJ21_checkPositionIndex (ws_ yJ21_checkPositionIndex cJ21_checkPositionIndex 2 none) 1 29 G h [.ref a0, .int (iI a1)] (jV r) hf :=
  zz_ofW hl (by decide +kernel) (lv := [(0, LR (some a0)), (1, LI a1)]) (by simp [lv_args, lvL, lvV, zz_rfc, zz_rfs, zz_ci, zz_cr, zz_cj, zz_cf, zz_cd]) (by simp [lg_sl, zz_rfc, zz_ci, zz_cr, zz_cj, zz_cf, zz_cd]) (fun _ X => A_J21_checkPositionIndex X a0 a1 h)
-- J21_node java/util/LinkedList.node(I)Ljava/util/LinkedList$Node;
noncomputable def c_J21_node_47 (r47 : Int → Option Nat → Int → HP → Option ((Option Nat) × HP)) (x1 : Int) (x2 : Option Nat) (x3 : Int) (h : HP) : Option ((Option Nat) × HP) :=
  iLE x3 x1
    (some (x2, h))
    ((rdR h x2 [31] 2).bind fun v4 =>
    r47 x1 v4 (x3 + (-1)) h)
noncomputable def b_J21_node_47 : Int → Option Nat → Int → HP → Option ((Option Nat) × HP) := fx (fun _ _ _ _ => none) (c_J21_node_47) FU
theorem C_J21_node_47 {M : hp_M} {G : va_G} {h0 : HP} (X : hp_X M G h0 "java/util/LinkedList" "node" cJ21_node 4 (some (.object "java/util/LinkedList$Node")) [] 0 0) (r47 : Int → Option Nat → Int → HP → Option ((Option Nat) × HP)) (hr47 : ∀ (y1 : Int) (y2 : Option Nat) (y3 : Int) (h : HP), vv M G h0 4 (hp_End M G h0) jR h 47 [(1, LI y1), (2, LR y2), (3, LI y3)] [] (r47 y1 y2 y3 h)) (x1 : Int) (x2 : Option Nat) (x3 : Int) (h : HP) : vv M G h0 4 (hp_End M G h0) jR h 47 [(1, LI x1), (2, LR x2), (3, LI x3)] [] (c_J21_node_47 r47 x1 x2 x3 h) := by
  unfold c_J21_node_47
  refine vv_iload_n (pc := 47) X (kf := 3) (i := 3) rfl 2 rfl dJ21_node_47 ?_
  refine vv_iload_n (pc := 48) X (kf := 1) (i := 1) rfl 0 rfl dJ21_node_48 ?_
  refine vv_icmp_le (pc := 49) (tgt := 63) X dJ21_node_49 rfl ?_ ?_
  · refine vv_aload_n (pc := 63) X (kf := 2) (i := 2) rfl 1 rfl dJ21_node_63 ?_
    exact vv_aretO X rfl rfl dJ21_node_64
  · refine vv_aload_n (pc := 52) X (kf := 2) (i := 2) rfl 1 rfl dJ21_node_52 ?_
    refine vv_getR (pc := 53) X (fun _ z => by cases List.mem_singleton.mp z; exact fl_J21_30_31) dJ21_node_53 (fun v4 => ?_)
    refine vv_astore_n (pc := 56) (lv' := [(2, LR v4), (1, LI x1), (3, LI x3)]) X (kf := 2) (i := 2) rfl (by decide) rfl dJ21_node_56 ?_
    refine vv_iinc (pc := 57) (lv' := [(3, LI (x3 + (-1))), (2, LR v4), (1, LI x1)]) X 2 rfl (by decide) rfl dJ21_node_57 ?_
    refine vv_goto (pc := 60) (tgt := 47) X dJ21_node_60 rfl ?_
    exact vv_sub [2, 1, 0] (by rfl) (hr47 _ _ _ _)
theorem B_J21_node_47 {M : hp_M} {G : va_G} {h0 : HP} (X : hp_X M G h0 "java/util/LinkedList" "node" cJ21_node 4 (some (.object "java/util/LinkedList$Node")) [] 0 0) : ∀ (x1 : Int) (x2 : Option Nat) (x3 : Int) (h : HP), vv M G h0 4 (hp_End M G h0) jR h 47 [(1, LI x1), (2, LR x2), (3, LI x3)] [] (b_J21_node_47 x1 x2 x3 h) := by
  unfold b_J21_node_47
  generalize FU = n
  induction n with
  | zero => intro x1 x2 x3 h; exact vv_none
  | succ n ih => exact C_J21_node_47 X _ ih
noncomputable def c_J21_node_17 (r17 : Int → Option Nat → Int → HP → Option ((Option Nat) × HP)) (x1 : Int) (x2 : Option Nat) (x3 : Int) (h : HP) : Option ((Option Nat) × HP) :=
  iLE x1 x3
    (some (x2, h))
    ((rdR h x2 [31] 1).bind fun v6 =>
    r17 x1 v6 (x3 + 1) h)
noncomputable def b_J21_node_17 : Int → Option Nat → Int → HP → Option ((Option Nat) × HP) := fx (fun _ _ _ _ => none) (c_J21_node_17) FU
theorem C_J21_node_17 {M : hp_M} {G : va_G} {h0 : HP} (X : hp_X M G h0 "java/util/LinkedList" "node" cJ21_node 4 (some (.object "java/util/LinkedList$Node")) [] 0 0) (r17 : Int → Option Nat → Int → HP → Option ((Option Nat) × HP)) (hr17 : ∀ (y1 : Int) (y2 : Option Nat) (y3 : Int) (h : HP), vv M G h0 4 (hp_End M G h0) jR h 17 [(1, LI y1), (2, LR y2), (3, LI y3)] [] (r17 y1 y2 y3 h)) (x1 : Int) (x2 : Option Nat) (x3 : Int) (h : HP) : vv M G h0 4 (hp_End M G h0) jR h 17 [(1, LI x1), (2, LR x2), (3, LI x3)] [] (c_J21_node_17 r17 x1 x2 x3 h) := by
  unfold c_J21_node_17
  refine vv_iload_n (pc := 17) X (kf := 3) (i := 3) rfl 2 rfl dJ21_node_17 ?_
  refine vv_iload_n (pc := 18) X (kf := 1) (i := 1) rfl 0 rfl dJ21_node_18 ?_
  refine vv_icmp_ge (pc := 19) (tgt := 33) X dJ21_node_19 rfl ?_ ?_
  · refine vv_aload_n (pc := 33) X (kf := 2) (i := 2) rfl 1 rfl dJ21_node_33 ?_
    exact vv_aretO X rfl rfl dJ21_node_34
  · refine vv_aload_n (pc := 22) X (kf := 2) (i := 2) rfl 1 rfl dJ21_node_22 ?_
    refine vv_getR (pc := 23) X (fun _ z => by cases List.mem_singleton.mp z; exact fl_J21_36_31) dJ21_node_23 (fun v6 => ?_)
    refine vv_astore_n (pc := 26) (lv' := [(2, LR v6), (1, LI x1), (3, LI x3)]) X (kf := 2) (i := 2) rfl (by decide) rfl dJ21_node_26 ?_
    refine vv_iinc (pc := 27) (lv' := [(3, LI (x3 + 1)), (2, LR v6), (1, LI x1)]) X 2 rfl (by decide) rfl dJ21_node_27 ?_
    refine vv_goto (pc := 30) (tgt := 17) X dJ21_node_30 rfl ?_
    exact vv_sub [2, 1, 0] (by rfl) (hr17 _ _ _ _)
theorem B_J21_node_17 {M : hp_M} {G : va_G} {h0 : HP} (X : hp_X M G h0 "java/util/LinkedList" "node" cJ21_node 4 (some (.object "java/util/LinkedList$Node")) [] 0 0) : ∀ (x1 : Int) (x2 : Option Nat) (x3 : Int) (h : HP), vv M G h0 4 (hp_End M G h0) jR h 17 [(1, LI x1), (2, LR x2), (3, LI x3)] [] (b_J21_node_17 x1 x2 x3 h) := by
  unfold b_J21_node_17
  generalize FU = n
  induction n with
  | zero => intro x1 x2 x3 h; exact vv_none
  | succ n ih => exact C_J21_node_17 X _ ih
noncomputable def f_J21_node (a0 : Nat) (a1 : Int) (h : HP) : Option ((Option Nat) × HP) :=
  (rdI h (some a0) [28] 1).bind fun v1 =>
  iLE (iShr v1 1) a1
    ((rdR h (some a0) [28] 3).bind fun v2 =>
    (rdI h (some a0) [28] 1).bind fun v3 =>
    b_J21_node_47 a1 v2 (v3 - 1) h)
    ((rdR h (some a0) [28] 2).bind fun v5 =>
    b_J21_node_17 a1 v5 0 h)
theorem A_J21_node {M : hp_M} {G : va_G} {h0 : HP} (X : hp_X M G h0 "java/util/LinkedList" "node" cJ21_node 4 (some (.object "java/util/LinkedList$Node")) [] 0 0) (a0 : Nat) (a1 : Int) (h : HP) : vv M G h0 4 (hp_End M G h0) jR h 0 [(0, LR (some a0)), (1, LI a1)] [] (f_J21_node a0 a1 h) := by
  unfold f_J21_node
  refine vv_iload_n (pc := 0) X (kf := 1) (i := 1) rfl 1 rfl dJ21_node_0 ?_
  refine vv_aload_n (pc := 1) X (kf := 0) (i := 0) rfl 0 rfl dJ21_node_1 ?_
  refine vv_getI (pc := 2) X (fun _ z => by cases List.mem_singleton.mp z; exact fl_J21_7_28) dJ21_node_2 (fun v1 => ?_)
  refine vv_iconst (pc := 5) X dJ21_node_5 ?_
  refine vv_ishr (pc := 6) X dJ21_node_6 ?_
  refine vv_icmp_ge (pc := 7) (tgt := 35) X dJ21_node_7 rfl ?_ ?_
  · refine vv_aload_n (pc := 35) X (kf := 0) (i := 0) rfl 0 rfl dJ21_node_35 ?_
    refine vv_getR (pc := 36) X (fun _ z => by cases List.mem_singleton.mp z; exact fl_J21_27_28) dJ21_node_36 (fun v2 => ?_)
    refine vv_astore_n (pc := 39) (lv' := [(2, LR v2), (0, LR (some a0)), (1, LI a1)]) X (kf := 2) (i := 2) rfl (by decide) rfl dJ21_node_39 ?_
    refine vv_aload_n (pc := 40) X (kf := 0) (i := 0) rfl 1 rfl dJ21_node_40 ?_
    refine vv_getI (pc := 41) X (fun _ z => by cases List.mem_singleton.mp z; exact fl_J21_7_28) dJ21_node_41 (fun v3 => ?_)
    refine vv_iconst (pc := 44) X dJ21_node_44 ?_
    refine vv_isub (pc := 45) X dJ21_node_45 ?_
    refine vv_istore_n (pc := 46) (lv' := [(3, LI (v3 - 1)), (2, LR v2), (0, LR (some a0)), (1, LI a1)]) X (kf := 3) (i := 3) rfl (by decide) rfl dJ21_node_46 ?_
    exact vv_sub [3, 1, 0] (by rfl) (B_J21_node_47 X _ _ _ _)
  · refine vv_aload_n (pc := 10) X (kf := 0) (i := 0) rfl 0 rfl dJ21_node_10 ?_
    refine vv_getR (pc := 11) X (fun _ z => by cases List.mem_singleton.mp z; exact fl_J21_18_28) dJ21_node_11 (fun v5 => ?_)
    refine vv_astore_n (pc := 14) (lv' := [(2, LR v5), (0, LR (some a0)), (1, LI a1)]) X (kf := 2) (i := 2) rfl (by decide) rfl dJ21_node_14 ?_
    refine vv_iconst (pc := 15) X dJ21_node_15 ?_
    refine vv_istore_n (pc := 16) (lv' := [(3, LI 0), (2, LR v5), (0, LR (some a0)), (1, LI a1)]) X (kf := 3) (i := 3) rfl (by decide) rfl dJ21_node_16 ?_
    exact vv_sub [3, 1, 0] (by rfl) (B_J21_node_17 X _ _ _ _)
theorem m_J21_node {l : Launch} (hl : l.stackTraces = false) {G : va_G} (a0 : Nat) (a1 : Int) (h : HP) : ∀ r hf, f_J21_node a0 a1 h = some (r, hf) → Ct l yJ21_node (ws_ yJ21_node cJ21_node 4 (some (.object "java/util/LinkedList$Node"))) 0 0 G h [.ref a0, .int (iI a1)] (jR r) hf :=
  zz_ofW hl (by decide +kernel) (lv := [(0, LR (some a0)), (1, LI a1)]) (by simp [lv_args, lvL, lvV, zz_rfc, zz_rfs, zz_ci, zz_cr, zz_cj, zz_cf, zz_cd]) (by simp [lg_sl, zz_rfc, zz_ci, zz_cr, zz_cj, zz_cf, zz_cd]) (fun _ X => A_J21_node X a0 a1 h)
-- J36_init java/util/LinkedList$ListItr.<init>(Ljava/util/LinkedList;I)V
noncomputable def b_J36_init_38 (x0 : Option Nat) (x2 : Int) (s0 : Option Nat) (s1 : Option Nat) (h : HP) : Option ((Unit) × HP) :=
  (wrR h s1 [32] 1 s0).bind fun h10 =>
  (wrI h10 x0 [32] 2 x2).bind fun h11 =>
  some ((), h11)
theorem B_J36_init_38 {M : hp_M} {G : va_G} {h0 : HP} (X : hp_X M G h0 "java/util/LinkedList$ListItr" "<init>" cJ36_init 3 none [] 1 31) (x0 : Option Nat) (x2 : Int) (s0 : Option Nat) (s1 : Option Nat) (h : HP) : vv M G h0 3 (hp_End M G h0) jV h 38 [(0, LR x0), (2, LI x2)] [LR s0, LR s1] (b_J36_init_38 x0 x2 s0 s1 h) := by
  unfold b_J36_init_38
  refine vv_putR (pc := 38) (ty9 := (.object "java/util/LinkedList$Node")) (fin := false) X (fun _ z => by cases List.mem_singleton.mp z; exact fl_J36_29_32) (fun z => nomatch z) (fun z => nomatch z) (by decide +kernel) rfl dJ36_init_38 (fun h10 => ?_)
  refine vv_aload_n (pc := 41) X (kf := 0) (i := 0) rfl 0 rfl dJ36_init_41 ?_
  refine vv_iload_n (pc := 42) X (kf := 2) (i := 2) rfl 1 rfl dJ36_init_42 ?_
  refine vv_putI (pc := 43) (fin := false) X (fun _ z => by cases List.mem_singleton.mp z; exact fl_J36_33_32) (fun z => nomatch z) (fun z => nomatch z) dJ36_init_43 (fun h11 => ?_)
  exact vv_vreturn X rfl rfl dJ36_init_46
noncomputable def f_J36_init (a0 : Nat) (a1 : Option Nat) (a2 : Int) (h : HP) : Option ((Unit) × HP) :=
  (wrR h (some a0) [32] 4 a1).bind fun h1 =>
  (rdR h1 (some a0) [32] 4).bind fun v2 =>
  (rdI h1 v2 [24, 28] 0).bind fun v3 =>
  (wrI h1 (some a0) [32] 3 v3).bind fun h4 =>
  (rdI h4 a1 [28] 1).bind fun v5 =>
  iEQ a2 v5
    (b_J36_init_38 (some a0) a2 none (some a0) h4)
    ((rcv h4 a1 [28]).bind fun b8 =>
    hb (f_J21_node b8 a2 h4) fun v6 h7 =>
    b_J36_init_38 (some a0) a2 v6 (some a0) h7)
theorem A_J36_init {M : hp_M} {G : va_G} {h0 : HP} (X : hp_X M G h0 "java/util/LinkedList$ListItr" "<init>" cJ36_init 3 none [] 1 31) (a0 : Nat) (a1 : Option Nat) (a2 : Int) (h : HP) : vv M G h0 3 (hp_End M G h0) jV h 0 [(0, LR (some a0)), (1, LR a1), (2, LI a2)] [] (f_J36_init a0 a1 a2 h) := by
  unfold f_J36_init
  refine vv_aload_n (pc := 0) X (kf := 0) (i := 0) rfl 0 rfl dJ36_init_0 ?_
  refine vv_aload_n (pc := 1) X (kf := 1) (i := 1) rfl 1 rfl dJ36_init_1 ?_
  refine vv_putR (pc := 2) (ty9 := (.object "java/util/LinkedList")) (fin := true) X (fun _ z => by cases List.mem_singleton.mp z; exact fl_J36_1_32) (fun _ => rfl) (fun _ => (fun _ z => by cases List.mem_singleton.mp z; exact ⟨_, rfl, rfl⟩)) (by decide +kernel) rfl dJ36_init_2 (fun h1 => ?_)
  refine vv_aload_n (pc := 5) X (kf := 0) (i := 0) rfl 0 rfl dJ36_init_5 ?_
  refine vv_objInit (pc := 6) X rfl q2542 q212 q213 (by decide) (by decide) (Nat.le_of_ble_eq_true rfl) dJ36_init_6 ?_
  refine vv_aload_n (pc := 9) X (kf := 0) (i := 0) rfl 0 rfl dJ36_init_9 ?_
  refine vv_aload_n (pc := 10) X (kf := 0) (i := 0) rfl 0 rfl dJ36_init_10 ?_
  refine vv_getR (pc := 11) X (fun _ z => by cases List.mem_singleton.mp z; exact fl_J36_1_32) dJ36_init_11 (fun v2 => ?_)
  refine vv_getI (pc := 14) X (fun _ z => by rcases List.mem_cons.mp z with rfl | z; exact fl_J36_13_24; cases List.mem_singleton.mp z; exact fl_J36_13_28) dJ36_init_14 (fun v3 => ?_)
  refine vv_putI (pc := 17) (fin := false) X (fun _ z => by cases List.mem_singleton.mp z; exact fl_J36_19_32) (fun z => nomatch z) (fun z => nomatch z) dJ36_init_17 (fun h4 => ?_)
  refine vv_aload_n (pc := 20) X (kf := 0) (i := 0) rfl 0 rfl dJ36_init_20 ?_
  refine vv_iload_n (pc := 21) X (kf := 2) (i := 2) rfl 2 rfl dJ36_init_21 ?_
  refine vv_aload_n (pc := 22) X (kf := 1) (i := 1) rfl 1 rfl dJ36_init_22 ?_
  refine vv_getI (pc := 23) X (fun _ z => by cases List.mem_singleton.mp z; exact fl_J36_22_28) dJ36_init_23 (fun v5 => ?_)
  refine vv_icmp_ne (pc := 26) (tgt := 33) X dJ36_init_26 rfl ?_ ?_
  · refine vv_aload_n (pc := 33) X (kf := 1) (i := 1) rfl 1 rfl dJ36_init_33 ?_
    refine vv_iload_n (pc := 34) X (kf := 2) (i := 2) rfl 2 rfl dJ36_init_34 ?_
    refine vv_rcv (fun b8 t9 c9 fs9 e9 g9 k9 => ?_)
    cases List.mem_singleton.mp k9
    refine vv_callR (pc := 35) (rest := [LR (some a0)]) (by rw [e9]; rfl) (fun r8 k8 e8 => zz_callV X (m_J21_node (hlM X) _ _ _ _ _ e8) g9 rfl rfl q2543 q2299 q2300 q162 q2301 nh_J21 rfl (by decide) (by decide) (Nat.le_of_ble_eq_true rfl) dJ36_init_35) (fun v6 h7 => ?_)
    exact vv_sub [0, 2] (by rfl) (B_J36_init_38 X _ _ _ _ _)
  · refine vv_null (pc := 29) X dJ36_init_29 ?_
    refine vv_goto (pc := 30) (tgt := 38) X dJ36_init_30 rfl ?_
    exact vv_sub [0, 2] (by rfl) (B_J36_init_38 X _ _ _ _ _)
theorem m_J36_init {l : Launch} (hl : l.stackTraces = false) {G : va_G} (a0 : Nat) (a1 : Option Nat) (a2 : Int) (h : HP) : ∀ r hf, f_J36_init a0 a1 a2 h = some (r, hf) → Ct l yJ36_init (ws_ yJ36_init cJ36_init 3 none) 1 31 G h [.ref a0, va_rf a1, .int (iI a2)] (jV r) hf :=
  zz_ofW hl (by decide +kernel) (lv := [(0, LR (some a0)), (1, LR a1), (2, LI a2)]) (by simp [lv_args, lvL, lvV, zz_rfc, zz_rfs, zz_ci, zz_cr, zz_cj, zz_cf, zz_cd]) (by simp [lg_sl, zz_rfc, zz_ci, zz_cr, zz_cj, zz_cf, zz_cd]) (fun _ X => A_J36_init X a0 a1 a2 h)
-- J21_listIterator java/util/LinkedList.listIterator(I)Ljava/util/ListIterator;
noncomputable def f_J21_listIterator (a0 : Nat) (a1 : Int) (h : HP) : Option ((Option Nat) × HP) :=
  (rcv h (some a0) [28]).bind fun b3 =>
  hb (f_J21_checkPositionIndex b3 a1 h) fun _ h2 =>
  hb (nwO h2 (hp_n h2 + 2) 32 [.inr (.inl none), .inr (.inl none), .inl 0, .inl 0, .inr (.inl none)] 5) fun v5 h6 =>
  (v5).bind fun b9 =>
  hb (f_J36_init b9 (some a0) a1 h6) fun _ h8 =>
  some (v5, h8)
theorem A_J21_listIterator {M : hp_M} {G : va_G} {h0 : HP} (X : hp_X M G h0 "java/util/LinkedList" "listIterator" cJ21_listIterator 2 (some (.object "java/util/ListIterator")) [] 2 61) (a0 : Nat) (a1 : Int) (h : HP) : vv M G h0 2 (hp_End M G h0) jR h 0 [(0, LR (some a0)), (1, LI a1)] [] (f_J21_listIterator a0 a1 h) := by
  unfold f_J21_listIterator
  refine vv_aload_n (pc := 0) X (kf := 0) (i := 0) rfl 0 rfl dJ21_listIterator_0 ?_
  refine vv_iload_n (pc := 1) X (kf := 1) (i := 1) rfl 1 rfl dJ21_listIterator_1 ?_
  refine vv_rcv (fun b3 t9 c9 fs9 e4 g9 k9 => ?_)
  cases List.mem_singleton.mp k9
  refine vv_callV (pc := 2) (rest := []) (by rw [e4]; rfl) (fun r8 k8 e8 => zz_callV X (m_J21_checkPositionIndex (hlM X) _ _ _ _ _ e8) g9 rfl rfl q2529 q2531 qs33 q162 q2532 nh_J21 rfl (by decide) (by decide) (Nat.le_of_ble_eq_true rfl) dJ21_listIterator_2) (fun v1 h2 => ?_)
  refine vv_new (pc := 5) X tyJ36 rfl in_J36 tyJ36_ok q2537 q2538 q200 ndJ36 (by decide) dJ21_listIterator_5 (fun v5 h6 => ?_)
  refine vv_dup (pc := 8) X rfl dJ21_listIterator_8 ?_
  refine vv_aload_n (pc := 9) X (kf := 0) (i := 0) rfl 0 rfl dJ21_listIterator_9 ?_
  refine vv_iload_n (pc := 10) X (kf := 1) (i := 1) rfl 1 rfl dJ21_listIterator_10 ?_
  refine vv_bnd (fun b9 e10 => ?_)
  refine vv_callV (pc := 11) (rest := [LR v5]) (by rw [e10]; rfl) (fun r8 k8 e8 => zz_callI X (m_J36_init (hlM X) _ _ _ _ _ _ e8) q2539 q2540 q200 q2541 rfl nh_J36 rfl (by decide) (by decide) (Nat.le_of_ble_eq_true rfl) dJ21_listIterator_11) (fun v7 h8 => ?_)
  exact vv_aretO X rfl rfl dJ21_listIterator_14
theorem m_J21_listIterator {l : Launch} (hl : l.stackTraces = false) {G : va_G} (a0 : Nat) (a1 : Int) (h : HP) : ∀ r hf, f_J21_listIterator a0 a1 h = some (r, hf) → Ct l yJ21_listIterator (ws_ yJ21_listIterator cJ21_listIterator 2 (some (.object "java/util/ListIterator"))) 2 61 G h [.ref a0, .int (iI a1)] (jR r) hf :=
  zz_ofW hl (by decide +kernel) (lv := [(0, LR (some a0)), (1, LI a1)]) (by simp [lv_args, lvL, lvV, zz_rfc, zz_rfs, zz_ci, zz_cr, zz_cj, zz_cf, zz_cd]) (by simp [lg_sl, zz_rfc, zz_ci, zz_cr, zz_cj, zz_cf, zz_cd]) (fun _ X => A_J21_listIterator X a0 a1 h)
-- J3_listIterator java/util/AbstractList.listIterator()Ljava/util/ListIterator;
noncomputable def dsp_AbstractList_listIterator_24_28 (b : Nat) (a1 : Int) (h : HP) : Option ((Option Nat) × HP) := (clsOf h b).bind fun c => if c = 24 then f_J4_listIterator b a1 h else if c = 28 then f_J21_listIterator b a1 h else none
theorem Zdsp_AbstractList_listIterator_24_28 {M : hp_M} {G : va_G} {h0 h : HP} {own nm : String} {cc : ByteArray} {nL F L : Nat} {ret : Option FieldType} {tb : List ExceptionTableEntry} (X : hp_X M G h0 own nm cc nL ret tb F L) {b ix pc : Nat} {a1 : Int} {rest : List Value} (q1 : Cond.methodLink own ix (⟨"java/util/AbstractList", "listIterator", "(I)Ljava/util/ListIterator;"⟩ : MethodName) ∈ lw_all) (d : decode cc pc = .ok (.invokevirtual ix, 3)) (hF : 3 ≤ F) (hL : 90 ≤ L) (hr : rest.length ≤ 8) {r8 : Option Nat} {k8 : HP} (e : dsp_AbstractList_listIterator_24_28 b a1 h = some (r8, k8)) : zz_run M G h0 nL h pc (pc + 3) ([.int (iI a1)].reverse ++ .ref b :: rest) rest (jR r8) k8 := by
  unfold dsp_AbstractList_listIterator_24_28 at e
  obtain ⟨c, hc, e⟩ := Option.bind_eq_some_iff.mp e
  obtain ⟨t9, fs9, g9⟩ := clsOf_some hc
  by_cases z0 : c = 24
  · subst z0
    have e8 : f_J4_listIterator b a1 h = some (r8, k8) := by simpa using e
    exact zz_callU X (m_J4_listIterator (hlM X) _ _ _ _ _ e8) g9 rfl q1 q2483 (va_Decl.abs (X.2.1.2.1 _ q2560 rfl)) (by decide) q2485 q2484 q139 q2486 rfl (by omega) (by omega) hr d
  by_cases z1 : c = 28
  · subst z1
    have e8 : f_J21_listIterator b a1 h = some (r8, k8) := by simpa using e
    exact zz_callU X (m_J21_listIterator (hlM X) _ _ _ _ _ e8) g9 rfl q1 q2483 (va_Decl.abs (X.2.1.2.1 _ q2560 rfl)) (by decide) q2527 q2526 q162 q2528 rfl (by omega) (by omega) hr d
  simp [z0, z1] at e

noncomputable def f_J3_listIterator (a0 : Nat) (h : HP) : Option ((Option Nat) × HP) :=
  ((some a0)).bind fun b3 =>
  hb (dsp_AbstractList_listIterator_24_28 b3 0 h) fun v1 h2 =>
  some (v1, h2)
theorem A_J3_listIterator {M : hp_M} {G : va_G} {h0 : HP} (X : hp_X M G h0 "java/util/AbstractList" "listIterator" cJ3_listIterator 1 (some (.object "java/util/ListIterator")) [] 3 90) (a0 : Nat) (h : HP) : vv M G h0 1 (hp_End M G h0) jR h 0 [(0, LR (some a0))] [] (f_J3_listIterator a0 h) := by
  unfold f_J3_listIterator
  refine vv_aload_n (pc := 0) X (kf := 0) (i := 0) rfl 0 rfl dJ3_listIterator_0 ?_
  refine vv_iconst (pc := 1) X dJ3_listIterator_1 ?_
  refine vv_bnd (fun b3 e4 => ?_)
  refine vv_callR (pc := 2) (rest := []) (by rw [e4]; rfl) (fun r8 k8 e8 => Zdsp_AbstractList_listIterator_24_28 X q2481 dJ3_listIterator_2 (by decide) (by decide) (Nat.le_of_ble_eq_true rfl) e8) (fun v1 h2 => ?_)
  exact vv_aretO X rfl rfl dJ3_listIterator_5
theorem m_J3_listIterator {l : Launch} (hl : l.stackTraces = false) {G : va_G} (a0 : Nat) (h : HP) : ∀ r hf, f_J3_listIterator a0 h = some (r, hf) → Ct l yJ3_listIterator (ws_ yJ3_listIterator cJ3_listIterator 1 (some (.object "java/util/ListIterator"))) 3 90 G h [.ref a0] (jR r) hf :=
  zz_ofW hl (by decide +kernel) (lv := [(0, LR (some a0))]) (by simp [lv_args, lvL, lvV, zz_rfc, zz_rfs, zz_ci, zz_cr, zz_cj, zz_cf, zz_cd]) (by simp [lg_sl, zz_rfc, zz_ci, zz_cr, zz_cj, zz_cf, zz_cd]) (fun _ X => A_J3_listIterator X a0 h)
-- J20_iterator java/util/AbstractSequentialList.iterator()Ljava/util/Iterator;
noncomputable def f_J20_iterator (a0 : Nat) (h : HP) : Option ((Option Nat) × HP) :=
  (rcv h (some a0) [28]).bind fun b3 =>
  hb (f_J3_listIterator b3 h) fun v1 h2 =>
  some (v1, h2)
theorem A_J20_iterator {M : hp_M} {G : va_G} {h0 : HP} (X : hp_X M G h0 "java/util/AbstractSequentialList" "iterator" cJ20_iterator 1 (some (.object "java/util/Iterator")) [] 4 118) (a0 : Nat) (h : HP) : vv M G h0 1 (hp_End M G h0) jR h 0 [(0, LR (some a0))] [] (f_J20_iterator a0 h) := by
  unfold f_J20_iterator
  refine vv_aload_n (pc := 0) X (kf := 0) (i := 0) rfl 0 rfl dJ20_iterator_0 ?_
  refine vv_rcv (fun b3 t9 c9 fs9 e4 g9 k9 => ?_)
  cases List.mem_singleton.mp k9
  refine vv_callR (pc := 1) (rest := []) (by rw [e4]; rfl) (fun r8 k8 e8 => zz_callU X (m_J3_listIterator (hlM X) _ _ _ _ e8) g9 rfl q2475 q2476 (va_Decl.of (X.1.2.2.2.2 _ q2479) (X.1.2.2.2.2 _ q2480)) (by decide) q2479 q2478 q138 q2480 rfl (by decide) (by decide) (Nat.le_of_ble_eq_true rfl) dJ20_iterator_1) (fun v1 h2 => ?_)
  exact vv_aretO X rfl rfl dJ20_iterator_4
theorem m_J20_iterator {l : Launch} (hl : l.stackTraces = false) {G : va_G} (a0 : Nat) (h : HP) : ∀ r hf, f_J20_iterator a0 h = some (r, hf) → Ct l yJ20_iterator (ws_ yJ20_iterator cJ20_iterator 1 (some (.object "java/util/Iterator"))) 4 118 G h [.ref a0] (jR r) hf :=
  zz_ofW hl (by decide +kernel) (lv := [(0, LR (some a0))]) (by simp [lv_args, lvL, lvV, zz_rfc, zz_rfs, zz_ci, zz_cr, zz_cj, zz_cf, zz_cd]) (by simp [lg_sl, zz_rfc, zz_ci, zz_cr, zz_cj, zz_cf, zz_cd]) (fun _ X => A_J20_iterator X a0 h)
-- J36_hasNext java/util/LinkedList$ListItr.hasNext()Z
noncomputable def b_J36_hasNext_19 (s0 : Int) (h : HP) : Option ((Int) × HP) :=
  rtZ s0 (some (s0, h))
theorem B_J36_hasNext_19 {M : hp_M} {G : va_G} {h0 : HP} (X : hp_X M G h0 "java/util/LinkedList$ListItr" "hasNext" cJ36_hasNext 1 (some .boolean) [] 0 0) (s0 : Int) (h : HP) : vv M G h0 1 (hp_End M G h0) jI h 19 [] [LI s0] (b_J36_hasNext_19 s0 h) := by
  unfold b_J36_hasNext_19
  exact vv_iretZ X rfl rfl dJ36_hasNext_19
noncomputable def f_J36_hasNext (a0 : Nat) (h : HP) : Option ((Int) × HP) :=
  (rdI h (some a0) [32] 2).bind fun v1 =>
  (rdR h (some a0) [32] 4).bind fun v2 =>
  (rdI h v2 [28] 1).bind fun v3 =>
  iLE v3 v1
    (b_J36_hasNext_19 0 h)
    (b_J36_hasNext_19 1 h)
theorem A_J36_hasNext {M : hp_M} {G : va_G} {h0 : HP} (X : hp_X M G h0 "java/util/LinkedList$ListItr" "hasNext" cJ36_hasNext 1 (some .boolean) [] 0 0) (a0 : Nat) (h : HP) : vv M G h0 1 (hp_End M G h0) jI h 0 [(0, LR (some a0))] [] (f_J36_hasNext a0 h) := by
  unfold f_J36_hasNext
  refine vv_aload_n (pc := 0) X (kf := 0) (i := 0) rfl 0 rfl dJ36_hasNext_0 ?_
  refine vv_getI (pc := 1) X (fun _ z => by cases List.mem_singleton.mp z; exact fl_J36_33_32) dJ36_hasNext_1 (fun v1 => ?_)
  refine vv_aload_n (pc := 4) X (kf := 0) (i := 0) rfl 0 rfl dJ36_hasNext_4 ?_
  refine vv_getR (pc := 5) X (fun _ z => by cases List.mem_singleton.mp z; exact fl_J36_1_32) dJ36_hasNext_5 (fun v2 => ?_)
  refine vv_getI (pc := 8) X (fun _ z => by cases List.mem_singleton.mp z; exact fl_J36_22_28) dJ36_hasNext_8 (fun v3 => ?_)
  refine vv_icmp_ge (pc := 11) (tgt := 18) X dJ36_hasNext_11 rfl ?_ ?_
  · refine vv_iconst (pc := 18) X dJ36_hasNext_18 ?_
    exact vv_sub [] (by rfl) (B_J36_hasNext_19 X _ _)
  · refine vv_iconst (pc := 14) X dJ36_hasNext_14 ?_
    refine vv_goto (pc := 15) (tgt := 19) X dJ36_hasNext_15 rfl ?_
    exact vv_sub [] (by rfl) (B_J36_hasNext_19 X _ _)
theorem m_J36_hasNext {l : Launch} (hl : l.stackTraces = false) {G : va_G} (a0 : Nat) (h : HP) : ∀ r hf, f_J36_hasNext a0 h = some (r, hf) → Ct l yJ36_hasNext (ws_ yJ36_hasNext cJ36_hasNext 1 (some .boolean)) 0 0 G h [.ref a0] (jI r) hf :=
  zz_ofW hl (by decide +kernel) (lv := [(0, LR (some a0))]) (by simp [lv_args, lvL, lvV, zz_rfc, zz_rfs, zz_ci, zz_cr, zz_cj, zz_cf, zz_cd]) (by simp [lg_sl, zz_rfc, zz_ci, zz_cr, zz_cj, zz_cf, zz_cd]) (fun _ X => A_J36_hasNext X a0 h)
-- J36_checkForComodification java/util/LinkedList$ListItr.checkForComodification()V
noncomputable def f_J36_checkForComodification (a0 : Nat) (h : HP) : Option ((Unit) × HP) :=
  (rdR h (some a0) [32] 4).bind fun v1 =>
  (rdI h v1 [24, 28] 0).bind fun v2 =>
  (rdI h (some a0) [32] 3).bind fun v3 =>
  iEQ v2 v3
    (some ((), h))
    (none)
theorem A_J36_checkForComodification {M : hp_M} {G : va_G} {h0 : HP} (X : hp_X M G h0 "java/util/LinkedList$ListItr" "checkForComodification" cJ36_checkForComodification 1 none [] 0 0) (a0 : Nat) (h : HP) : vv M G h0 1 (hp_End M G h0) jV h 0 [(0, LR (some a0))] [] (f_J36_checkForComodification a0 h) := by
  unfold f_J36_checkForComodification
  refine vv_aload_n (pc := 0) X (kf := 0) (i := 0) rfl 0 rfl dJ36_checkForComodification_0 ?_
  refine vv_getR (pc := 1) X (fun _ z => by cases List.mem_singleton.mp z; exact fl_J36_1_32) dJ36_checkForComodification_1 (fun v1 => ?_)
  refine vv_getI (pc := 4) X (fun _ z => by rcases List.mem_cons.mp z with rfl | z; exact fl_J36_13_24; cases List.mem_singleton.mp z; exact fl_J36_13_28) dJ36_checkForComodification_4 (fun v2 => ?_)
  refine vv_aload_n (pc := 7) X (kf := 0) (i := 0) rfl 0 rfl dJ36_checkForComodification_7 ?_
  refine vv_getI (pc := 8) X (fun _ z => by cases List.mem_singleton.mp z; exact fl_J36_19_32) dJ36_checkForComodification_8 (fun v3 => ?_)
  refine vv_icmp_eq (pc := 11) (tgt := 22) X dJ36_checkForComodification_11 rfl ?_ ?_
  · exact vv_vreturn X rfl rfl dJ36_checkForComodification_22
  · exact vv_none
theorem m_J36_checkForComodification {l : Launch} (hl : l.stackTraces = false) {G : va_G} (a0 : Nat) (h : HP) : ∀ r hf, f_J36_checkForComodification a0 h = some (r, hf) → Ct l yJ36_checkForComodification (ws_ yJ36_checkForComodification cJ36_checkForComodification 1 none) 0 0 G h [.ref a0] (jV r) hf :=
  zz_ofW hl (by decide +kernel) (lv := [(0, LR (some a0))]) (by simp [lv_args, lvL, lvV, zz_rfc, zz_rfs, zz_ci, zz_cr, zz_cj, zz_cf, zz_cd]) (by simp [lg_sl, zz_rfc, zz_ci, zz_cr, zz_cj, zz_cf, zz_cd]) (fun _ X => A_J36_checkForComodification X a0 h)
-- J36_next java/util/LinkedList$ListItr.next()Ljava/lang/Object;
noncomputable def f_J36_next (a0 : Nat) (h : HP) : Option ((Option Nat) × HP) :=
  (rcv h (some a0) [32]).bind fun b3 =>
  hb (f_J36_checkForComodification b3 h) fun _ h2 =>
  (rcv h2 (some a0) [32]).bind fun b7 =>
  hb (f_J36_hasNext b7 h2) fun v5 h6 =>
  iEQ v5 0
    (none)
    ((rdR h6 (some a0) [32] 1).bind fun v9 =>
    (wrR h6 (some a0) [32] 0 v9).bind fun h10 =>
    (rdR h10 (some a0) [32] 1).bind fun v11 =>
    (rdR h10 v11 [31] 1).bind fun v12 =>
    (wrR h10 (some a0) [32] 1 v12).bind fun h13 =>
    (rdI h13 (some a0) [32] 2).bind fun v14 =>
    (wrI h13 (some a0) [32] 2 (v14 + 1)).bind fun h15 =>
    (rdR h15 (some a0) [32] 0).bind fun v16 =>
    (rdR h15 v16 [31] 0).bind fun v17 =>
    some (v17, h15))
theorem A_J36_next {M : hp_M} {G : va_G} {h0 : HP} (X : hp_X M G h0 "java/util/LinkedList$ListItr" "next" cJ36_next 1 (some (.object "java/lang/Object")) [] 1 28) (a0 : Nat) (h : HP) : vv M G h0 1 (hp_End M G h0) jR h 0 [(0, LR (some a0))] [] (f_J36_next a0 h) := by
  unfold f_J36_next
  refine vv_aload_n (pc := 0) X (kf := 0) (i := 0) rfl 0 rfl dJ36_next_0 ?_
  refine vv_rcv (fun b3 t9 c9 fs9 e4 g9 k9 => ?_)
  cases List.mem_singleton.mp k9
  refine vv_callV (pc := 1) (rest := []) (by rw [e4]; rfl) (fun r8 k8 e8 => zz_callV X (m_J36_checkForComodification (hlM X) _ _ _ _ e8) g9 rfl rfl q2371 q2372 q2373 q200 q2374 nh_J36 rfl (by decide) (by decide) (Nat.le_of_ble_eq_true rfl) dJ36_next_1) (fun v1 h2 => ?_)
  refine vv_aload_n (pc := 4) X (kf := 0) (i := 0) rfl 0 rfl dJ36_next_4 ?_
  refine vv_rcv (fun b7 t9 c9 fs9 e8 g9 k9 => ?_)
  cases List.mem_singleton.mp k9
  refine vv_callI (pc := 5) (rest := []) (by rw [e8]; rfl) (fun r8 k8 e8 => zz_callV X (m_J36_hasNext (hlM X) _ _ _ _ e8) g9 rfl rfl q2375 q2200 q4108 q200 q2202 nh_J36 rfl (by decide) (by decide) (Nat.le_of_ble_eq_true rfl) dJ36_next_5) (fun v5 h6 => ?_)
  refine vv_if_ne (pc := 8) (tgt := 19) X dJ36_next_8 rfl ?_ ?_
  · refine vv_aload_n (pc := 19) X (kf := 0) (i := 0) rfl 0 rfl dJ36_next_19 ?_
    refine vv_aload_n (pc := 20) X (kf := 0) (i := 0) rfl 0 rfl dJ36_next_20 ?_
    refine vv_getR (pc := 21) X (fun _ z => by cases List.mem_singleton.mp z; exact fl_J36_29_32) dJ36_next_21 (fun v9 => ?_)
    refine vv_putR (pc := 24) (ty9 := (.object "java/util/LinkedList$Node")) (fin := false) X (fun _ z => by cases List.mem_singleton.mp z; exact fl_J36_46_32) (fun z => nomatch z) (fun z => nomatch z) (by decide +kernel) rfl dJ36_next_24 (fun h10 => ?_)
    refine vv_aload_n (pc := 27) X (kf := 0) (i := 0) rfl 0 rfl dJ36_next_27 ?_
    refine vv_aload_n (pc := 28) X (kf := 0) (i := 0) rfl 0 rfl dJ36_next_28 ?_
    refine vv_getR (pc := 29) X (fun _ z => by cases List.mem_singleton.mp z; exact fl_J36_29_32) dJ36_next_29 (fun v11 => ?_)
    refine vv_getR (pc := 32) X (fun _ z => by cases List.mem_singleton.mp z; exact fl_J36_49_31) dJ36_next_32 (fun v12 => ?_)
    refine vv_putR (pc := 35) (ty9 := (.object "java/util/LinkedList$Node")) (fin := false) X (fun _ z => by cases List.mem_singleton.mp z; exact fl_J36_29_32) (fun z => nomatch z) (fun z => nomatch z) (by decide +kernel) rfl dJ36_next_35 (fun h13 => ?_)
    refine vv_aload_n (pc := 38) X (kf := 0) (i := 0) rfl 0 rfl dJ36_next_38 ?_
    refine vv_dup (pc := 39) X rfl dJ36_next_39 ?_
    refine vv_getI (pc := 40) X (fun _ z => by cases List.mem_singleton.mp z; exact fl_J36_33_32) dJ36_next_40 (fun v14 => ?_)
    refine vv_iconst (pc := 43) X dJ36_next_43 ?_
    refine vv_iadd (pc := 44) X dJ36_next_44 ?_
    refine vv_putI (pc := 45) (fin := false) X (fun _ z => by cases List.mem_singleton.mp z; exact fl_J36_33_32) (fun z => nomatch z) (fun z => nomatch z) dJ36_next_45 (fun h15 => ?_)
    refine vv_aload_n (pc := 48) X (kf := 0) (i := 0) rfl 0 rfl dJ36_next_48 ?_
    refine vv_getR (pc := 49) X (fun _ z => by cases List.mem_singleton.mp z; exact fl_J36_46_32) dJ36_next_49 (fun v16 => ?_)
    refine vv_getR (pc := 52) X (fun _ z => by cases List.mem_singleton.mp z; exact fl_J36_52_31) dJ36_next_52 (fun v17 => ?_)
    exact vv_aretO X rfl rfl dJ36_next_55
  · exact vv_none
theorem m_J36_next {l : Launch} (hl : l.stackTraces = false) {G : va_G} (a0 : Nat) (h : HP) : ∀ r hf, f_J36_next a0 h = some (r, hf) → Ct l yJ36_next (ws_ yJ36_next cJ36_next 1 (some (.object "java/lang/Object"))) 1 28 G h [.ref a0] (jR r) hf :=
  zz_ofW hl (by decide +kernel) (lv := [(0, LR (some a0))]) (by simp [lv_args, lvL, lvV, zz_rfc, zz_rfs, zz_ci, zz_cr, zz_cj, zz_cf, zz_cd]) (by simp [lg_sl, zz_rfc, zz_ci, zz_cr, zz_cj, zz_cf, zz_cd]) (fun _ X => A_J36_next X a0 h)
-- X2_isPlace RenamedWords$Desk.isPlace(I)Z
noncomputable def f_X2_isPlace (a0 : Nat) (a1 : Int) (h : HP) : Option ((Int) × HP) :=
  (rdR h (some a0) [1] 0).bind fun v1 =>
  (rdI h v1 [3] 3).bind fun v2 =>
  hb (f_X1_in (iL a1) 0 (iL (v2 - 1)) h) fun v3 h4 =>
  rtZ v3 (some (v3, h4))
theorem A_X2_isPlace {M : hp_M} {G : va_G} {h0 : HP} (X : hp_X M G h0 "RenamedWords$Desk" "isPlace" cX2_isPlace 2 (some .boolean) [] 1 33) (a0 : Nat) (a1 : Int) (h : HP) : vv M G h0 2 (hp_End M G h0) jI h 0 [(0, LR (some a0)), (1, LI a1)] [] (f_X2_isPlace a0 a1 h) := by
  unfold f_X2_isPlace
  refine vv_iload_n (pc := 0) X (kf := 1) (i := 1) rfl 1 rfl dX2_isPlace_0 ?_
  refine vv_i2l (pc := 1) X dX2_isPlace_1 ?_
  refine vv_lconst (pc := 2) (v := 0) X (by decide) dX2_isPlace_2 ?_
  refine vv_aload_n (pc := 3) X (kf := 0) (i := 0) rfl 0 rfl dX2_isPlace_3 ?_
  refine vv_getR (pc := 4) X (fun _ z => by cases List.mem_singleton.mp z; exact fl_X2_12_1) dX2_isPlace_4 (fun v1 => ?_)
  refine vv_getI (pc := 7) X (fun _ z => by cases List.mem_singleton.mp z; exact fl_X2_123_3) dX2_isPlace_7 (fun v2 => ?_)
  refine vv_iconst (pc := 10) X dX2_isPlace_10 ?_
  refine vv_isub (pc := 11) X dX2_isPlace_11 ?_
  refine vv_i2l (pc := 12) X dX2_isPlace_12 ?_
  refine vv_callI (pc := 13) (rest := []) (by rfl) (fun r8 k8 e8 => zz_callSN X (m_X1_in (hlM X) _ _ _ _ _ _ e8) q2587 q873 q132 q874 nh_X1 rfl (by decide) (by decide) (Nat.le_of_ble_eq_true rfl) dX2_isPlace_13) (fun v3 h4 => ?_)
  exact vv_iretZ X rfl rfl dX2_isPlace_16
theorem m_X2_isPlace {l : Launch} (hl : l.stackTraces = false) {G : va_G} (a0 : Nat) (a1 : Int) (h : HP) : ∀ r hf, f_X2_isPlace a0 a1 h = some (r, hf) → Ct l yX2_isPlace (ws_ yX2_isPlace cX2_isPlace 2 (some .boolean)) 1 33 G h [.ref a0, .int (iI a1)] (jI r) hf :=
  zz_ofW hl (by decide +kernel) (lv := [(0, LR (some a0)), (1, LI a1)]) (by simp [lv_args, lvL, lvV, zz_rfc, zz_rfs, zz_ci, zz_cr, zz_cj, zz_cf, zz_cd]) (by simp [lg_sl, zz_rfc, zz_ci, zz_cr, zz_cj, zz_cf, zz_cd]) (fun _ X => A_X2_isPlace X a0 a1 h)
-- X5_puts RenamedWords$Text.puts(II)I
noncomputable def f_X5_puts (a0 : Nat) (a1 : Int) (a2 : Int) (h : HP) : Option ((Int) × HP) :=
  (rdR h (some a0) [3] 0).bind fun v1 =>
  (aldI h .int v1 a1).bind fun v2 =>
  (rdR h (some a0) [3] 0).bind fun v3 =>
  (astI h .int v3 a1 a2).bind fun h4 =>
  (wrI h4 (some a0) [3] 4 (-1)).bind fun h5 =>
  some (v2, h5)
theorem A_X5_puts {M : hp_M} {G : va_G} {h0 : HP} (X : hp_X M G h0 "RenamedWords$Text" "puts" cX5_puts 4 (some .int) [] 0 0) (a0 : Nat) (a1 : Int) (a2 : Int) (h : HP) : vv M G h0 4 (hp_End M G h0) jI h 0 [(0, LR (some a0)), (1, LI a1), (2, LI a2)] [] (f_X5_puts a0 a1 a2 h) := by
  unfold f_X5_puts
  refine vv_aload_n (pc := 0) X (kf := 0) (i := 0) rfl 0 rfl dX5_puts_0 ?_
  refine vv_getR (pc := 1) X (fun _ z => by cases List.mem_singleton.mp z; exact fl_X5_9_3) dX5_puts_1 (fun v1 => ?_)
  refine vv_iload_n (pc := 4) X (kf := 1) (i := 1) rfl 1 rfl dX5_puts_4 ?_
  refine vv_iaload (pc := 5) X dX5_puts_5 (fun v2 => ?_)
  refine vv_istore_n (pc := 6) (lv' := [(3, LI v2), (0, LR (some a0)), (1, LI a1), (2, LI a2)]) X (kf := 3) (i := 3) rfl (by decide) rfl dX5_puts_6 ?_
  refine vv_aload_n (pc := 7) X (kf := 0) (i := 0) rfl 1 rfl dX5_puts_7 ?_
  refine vv_getR (pc := 8) X (fun _ z => by cases List.mem_singleton.mp z; exact fl_X5_9_3) dX5_puts_8 (fun v3 => ?_)
  refine vv_iload_n (pc := 11) X (kf := 1) (i := 1) rfl 2 rfl dX5_puts_11 ?_
  refine vv_iload_n (pc := 12) X (kf := 2) (i := 2) rfl 3 rfl dX5_puts_12 ?_
  refine vv_iastore (pc := 13) X dX5_puts_13 (fun h4 => ?_)
  refine vv_aload_n (pc := 14) X (kf := 0) (i := 0) rfl 1 rfl dX5_puts_14 ?_
  refine vv_iconst (pc := 15) X dX5_puts_15 ?_
  refine vv_putI (pc := 16) (fin := false) X (fun _ z => by cases List.mem_singleton.mp z; exact fl_X5_21_3) (fun z => nomatch z) (fun z => nomatch z) dX5_puts_16 (fun h5 => ?_)
  refine vv_iload_n (pc := 19) X (kf := 3) (i := 3) rfl 0 rfl dX5_puts_19 ?_
  exact vv_iretI X rfl rfl dX5_puts_20
theorem m_X5_puts {l : Launch} (hl : l.stackTraces = false) {G : va_G} (a0 : Nat) (a1 : Int) (a2 : Int) (h : HP) : ∀ r hf, f_X5_puts a0 a1 a2 h = some (r, hf) → Ct l yX5_puts (ws_ yX5_puts cX5_puts 4 (some .int)) 0 0 G h [.ref a0, .int (iI a1), .int (iI a2)] (jI r) hf :=
  zz_ofW hl (by decide +kernel) (lv := [(0, LR (some a0)), (1, LI a1), (2, LI a2)]) (by simp [lv_args, lvL, lvV, zz_rfc, zz_rfs, zz_ci, zz_cr, zz_cj, zz_cf, zz_cd]) (by simp [lg_sl, zz_rfc, zz_ci, zz_cr, zz_cj, zz_cf, zz_cd]) (fun _ X => A_X5_puts X a0 a1 a2 h)
-- X14_many RenamedWords$Word.many()I
noncomputable def f_X14_many (a0 : Nat) (h : HP) : Option ((Int) × HP) :=
  (rdR h (some a0) [11] 0).bind fun v1 =>
  (alen h v1).bind fun v2 =>
  some (v2, h)
theorem A_X14_many {M : hp_M} {G : va_G} {h0 : HP} (X : hp_X M G h0 "RenamedWords$Word" "many" cX14_many 1 (some .int) [] 0 0) (a0 : Nat) (h : HP) : vv M G h0 1 (hp_End M G h0) jI h 0 [(0, LR (some a0))] [] (f_X14_many a0 h) := by
  unfold f_X14_many
  refine vv_aload_n (pc := 0) X (kf := 0) (i := 0) rfl 0 rfl dX14_many_0 ?_
  refine vv_getR (pc := 1) X (fun _ z => by cases List.mem_singleton.mp z; exact fl_X14_9_11) dX14_many_1 (fun v1 => ?_)
  refine vv_alen (pc := 4) X dX14_many_4 (fun v2 => ?_)
  exact vv_iretI X rfl rfl dX14_many_5
theorem m_X14_many {l : Launch} (hl : l.stackTraces = false) {G : va_G} (a0 : Nat) (h : HP) : ∀ r hf, f_X14_many a0 h = some (r, hf) → Ct l yX14_many (ws_ yX14_many cX14_many 1 (some .int)) 0 0 G h [.ref a0] (jI r) hf :=
  zz_ofW hl (by decide +kernel) (lv := [(0, LR (some a0))]) (by simp [lv_args, lvL, lvV, zz_rfc, zz_rfs, zz_ci, zz_cr, zz_cj, zz_cf, zz_cd]) (by simp [lg_sl, zz_rfc, zz_ci, zz_cr, zz_cj, zz_cf, zz_cd]) (fun _ X => A_X14_many X a0 h)
-- X7_lays RenamedWords$Window.lays(LRenamedWords$Row;II)LRenamedWords$Window;
noncomputable def f_X7_lays (a0 : Nat) (a1 : Option Nat) (a2 : Int) (a3 : Int) (h : HP) : Option ((Option Nat) × HP) :=
  (wrR h (some a0) [5] 0 a1).bind fun h1 =>
  (wrI h1 (some a0) [5] 1 a2).bind fun h2 =>
  (wrI h2 (some a0) [5] 2 a3).bind fun h3 =>
  some ((some a0), h3)
theorem A_X7_lays {M : hp_M} {G : va_G} {h0 : HP} (X : hp_X M G h0 "RenamedWords$Window" "lays" cX7_lays 4 (some (.object "RenamedWords$Window")) [] 0 0) (a0 : Nat) (a1 : Option Nat) (a2 : Int) (a3 : Int) (h : HP) : vv M G h0 4 (hp_End M G h0) jR h 0 [(0, LR (some a0)), (1, LR a1), (2, LI a2), (3, LI a3)] [] (f_X7_lays a0 a1 a2 a3 h) := by
  unfold f_X7_lays
  refine vv_aload_n (pc := 0) X (kf := 0) (i := 0) rfl 0 rfl dX7_lays_0 ?_
  refine vv_aload_n (pc := 1) X (kf := 1) (i := 1) rfl 1 rfl dX7_lays_1 ?_
  refine vv_putR (pc := 2) (ty9 := (.object "RenamedWords$Row")) (fin := false) X (fun _ z => by cases List.mem_singleton.mp z; exact fl_X7_7_5) (fun z => nomatch z) (fun z => nomatch z) (by decide +kernel) rfl dX7_lays_2 (fun h1 => ?_)
  refine vv_aload_n (pc := 5) X (kf := 0) (i := 0) rfl 0 rfl dX7_lays_5 ?_
  refine vv_iload_n (pc := 6) X (kf := 2) (i := 2) rfl 2 rfl dX7_lays_6 ?_
  refine vv_putI (pc := 7) (fin := false) X (fun _ z => by cases List.mem_singleton.mp z; exact fl_X7_13_5) (fun z => nomatch z) (fun z => nomatch z) dX7_lays_7 (fun h2 => ?_)
  refine vv_aload_n (pc := 10) X (kf := 0) (i := 0) rfl 0 rfl dX7_lays_10 ?_
  refine vv_iload_n (pc := 11) X (kf := 3) (i := 3) rfl 3 rfl dX7_lays_11 ?_
  refine vv_putI (pc := 12) (fin := false) X (fun _ z => by cases List.mem_singleton.mp z; exact fl_X7_17_5) (fun z => nomatch z) (fun z => nomatch z) dX7_lays_12 (fun h3 => ?_)
  refine vv_aload_n (pc := 15) X (kf := 0) (i := 0) rfl 0 rfl dX7_lays_15 ?_
  exact vv_aretO X rfl rfl dX7_lays_16
theorem m_X7_lays {l : Launch} (hl : l.stackTraces = false) {G : va_G} (a0 : Nat) (a1 : Option Nat) (a2 : Int) (a3 : Int) (h : HP) : ∀ r hf, f_X7_lays a0 a1 a2 a3 h = some (r, hf) → Ct l yX7_lays (ws_ yX7_lays cX7_lays 4 (some (.object "RenamedWords$Window"))) 0 0 G h [.ref a0, va_rf a1, .int (iI a2), .int (iI a3)] (jR r) hf :=
  zz_ofW hl (by decide +kernel) (lv := [(0, LR (some a0)), (1, LR a1), (2, LI a2), (3, LI a3)]) (by simp [lv_args, lvL, lvV, zz_rfc, zz_rfs, zz_ci, zz_cr, zz_cj, zz_cf, zz_cd]) (by simp [lg_sl, zz_rfc, zz_ci, zz_cr, zz_cj, zz_cf, zz_cd]) (fun _ X => A_X7_lays X a0 a1 a2 a3 h)
-- X5_many RenamedWords$Text.many()I
noncomputable def f_X5_many (a0 : Nat) (h : HP) : Option ((Int) × HP) :=
  (rdI h (some a0) [3] 3).bind fun v1 =>
  some (v1, h)
theorem A_X5_many {M : hp_M} {G : va_G} {h0 : HP} (X : hp_X M G h0 "RenamedWords$Text" "many" cX5_many 1 (some .int) [] 0 0) (a0 : Nat) (h : HP) : vv M G h0 1 (hp_End M G h0) jI h 0 [(0, LR (some a0))] [] (f_X5_many a0 h) := by
  unfold f_X5_many
  refine vv_aload_n (pc := 0) X (kf := 0) (i := 0) rfl 0 rfl dX5_many_0 ?_
  refine vv_getI (pc := 1) X (fun _ z => by cases List.mem_singleton.mp z; exact fl_X5_25_3) dX5_many_1 (fun v1 => ?_)
  exact vv_iretI X rfl rfl dX5_many_4
theorem m_X5_many {l : Launch} (hl : l.stackTraces = false) {G : va_G} (a0 : Nat) (h : HP) : ∀ r hf, f_X5_many a0 h = some (r, hf) → Ct l yX5_many (ws_ yX5_many cX5_many 1 (some .int)) 0 0 G h [.ref a0] (jI r) hf :=
  zz_ofW hl (by decide +kernel) (lv := [(0, LR (some a0))]) (by simp [lv_args, lvL, lvV, zz_rfc, zz_rfs, zz_ci, zz_cr, zz_cj, zz_cf, zz_cd]) (by simp [lg_sl, zz_rfc, zz_ci, zz_cr, zz_cj, zz_cf, zz_cd]) (fun _ X => A_X5_many X a0 h)
-- X7_many RenamedWords$Window.many()I
noncomputable def f_X7_many (a0 : Nat) (h : HP) : Option ((Int) × HP) :=
  (rdI h (some a0) [5] 2).bind fun v1 =>
  some (v1, h)
theorem A_X7_many {M : hp_M} {G : va_G} {h0 : HP} (X : hp_X M G h0 "RenamedWords$Window" "many" cX7_many 1 (some .int) [] 0 0) (a0 : Nat) (h : HP) : vv M G h0 1 (hp_End M G h0) jI h 0 [(0, LR (some a0))] [] (f_X7_many a0 h) := by
  unfold f_X7_many
  refine vv_aload_n (pc := 0) X (kf := 0) (i := 0) rfl 0 rfl dX7_many_0 ?_
  refine vv_getI (pc := 1) X (fun _ z => by cases List.mem_singleton.mp z; exact fl_X7_17_5) dX7_many_1 (fun v1 => ?_)
  exact vv_iretI X rfl rfl dX7_many_4
theorem m_X7_many {l : Launch} (hl : l.stackTraces = false) {G : va_G} (a0 : Nat) (h : HP) : ∀ r hf, f_X7_many a0 h = some (r, hf) → Ct l yX7_many (ws_ yX7_many cX7_many 1 (some .int)) 0 0 G h [.ref a0] (jI r) hf :=
  zz_ofW hl (by decide +kernel) (lv := [(0, LR (some a0))]) (by simp [lv_args, lvL, lvV, zz_rfc, zz_rfs, zz_ci, zz_cr, zz_cj, zz_cf, zz_cd]) (by simp [lg_sl, zz_rfc, zz_ci, zz_cr, zz_cj, zz_cf, zz_cd]) (fun _ X => A_X7_many X a0 h)
-- X5_at RenamedWords$Text.at(I)I
noncomputable def f_X5_at (a0 : Nat) (a1 : Int) (h : HP) : Option ((Int) × HP) :=
  (rdR h (some a0) [3] 0).bind fun v1 =>
  (aldI h .int v1 a1).bind fun v2 =>
  some (v2, h)
theorem A_X5_at {M : hp_M} {G : va_G} {h0 : HP} (X : hp_X M G h0 "RenamedWords$Text" "at" cX5_at 2 (some .int) [] 0 0) (a0 : Nat) (a1 : Int) (h : HP) : vv M G h0 2 (hp_End M G h0) jI h 0 [(0, LR (some a0)), (1, LI a1)] [] (f_X5_at a0 a1 h) := by
  unfold f_X5_at
  refine vv_aload_n (pc := 0) X (kf := 0) (i := 0) rfl 0 rfl dX5_at_0 ?_
  refine vv_getR (pc := 1) X (fun _ z => by cases List.mem_singleton.mp z; exact fl_X5_9_3) dX5_at_1 (fun v1 => ?_)
  refine vv_iload_n (pc := 4) X (kf := 1) (i := 1) rfl 1 rfl dX5_at_4 ?_
  refine vv_iaload (pc := 5) X dX5_at_5 (fun v2 => ?_)
  exact vv_iretI X rfl rfl dX5_at_6
theorem m_X5_at {l : Launch} (hl : l.stackTraces = false) {G : va_G} (a0 : Nat) (a1 : Int) (h : HP) : ∀ r hf, f_X5_at a0 a1 h = some (r, hf) → Ct l yX5_at (ws_ yX5_at cX5_at 2 (some .int)) 0 0 G h [.ref a0, .int (iI a1)] (jI r) hf :=
  zz_ofW hl (by decide +kernel) (lv := [(0, LR (some a0)), (1, LI a1)]) (by simp [lv_args, lvL, lvV, zz_rfc, zz_rfs, zz_ci, zz_cr, zz_cj, zz_cf, zz_cd]) (by simp [lg_sl, zz_rfc, zz_ci, zz_cr, zz_cj, zz_cf, zz_cd]) (fun _ X => A_X5_at X a0 a1 h)
-- X14_at RenamedWords$Word.at(I)I
noncomputable def f_X14_at (a0 : Nat) (a1 : Int) (h : HP) : Option ((Int) × HP) :=
  (rdR h (some a0) [11] 0).bind fun v1 =>
  (aldI h .int v1 a1).bind fun v2 =>
  some (v2, h)
theorem A_X14_at {M : hp_M} {G : va_G} {h0 : HP} (X : hp_X M G h0 "RenamedWords$Word" "at" cX14_at 2 (some .int) [] 0 0) (a0 : Nat) (a1 : Int) (h : HP) : vv M G h0 2 (hp_End M G h0) jI h 0 [(0, LR (some a0)), (1, LI a1)] [] (f_X14_at a0 a1 h) := by
  unfold f_X14_at
  refine vv_aload_n (pc := 0) X (kf := 0) (i := 0) rfl 0 rfl dX14_at_0 ?_
  refine vv_getR (pc := 1) X (fun _ z => by cases List.mem_singleton.mp z; exact fl_X14_9_11) dX14_at_1 (fun v1 => ?_)
  refine vv_iload_n (pc := 4) X (kf := 1) (i := 1) rfl 1 rfl dX14_at_4 ?_
  refine vv_iaload (pc := 5) X dX14_at_5 (fun v2 => ?_)
  exact vv_iretI X rfl rfl dX14_at_6
theorem m_X14_at {l : Launch} (hl : l.stackTraces = false) {G : va_G} (a0 : Nat) (a1 : Int) (h : HP) : ∀ r hf, f_X14_at a0 a1 h = some (r, hf) → Ct l yX14_at (ws_ yX14_at cX14_at 2 (some .int)) 0 0 G h [.ref a0, .int (iI a1)] (jI r) hf :=
  zz_ofW hl (by decide +kernel) (lv := [(0, LR (some a0)), (1, LI a1)]) (by simp [lv_args, lvL, lvV, zz_rfc, zz_rfs, zz_ci, zz_cr, zz_cj, zz_cf, zz_cd]) (by simp [lg_sl, zz_rfc, zz_ci, zz_cr, zz_cj, zz_cf, zz_cd]) (fun _ X => A_X14_at X a0 a1 h)
