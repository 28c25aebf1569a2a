/-! STAGE 1c: functions and contracts (printed by gen/mkfuncs.py). -/
set_option maxRecDepth 100000
set_option linter.unusedVariables false
-- X9_orderHere RenamedWordsModel.orderHere()I
noncomputable def b_X9_orderHere_113 (s0 : Int) (h : HP) : Option ((Int) × HP) :=
  some (s0, h)
theorem B_X9_orderHere_113 {M : hp_M} {G : va_G} {h0 : HP} (X : hp_X M G h0 "RenamedWordsModel" "orderHere" cX9_orderHere 1 (some .int) [] 5 147) (s0 : Int) (h : HP) : vv M G h0 1 (hp_End M G h0) jI h 113 [] [LI s0] (b_X9_orderHere_113 s0 h) := by
  unfold b_X9_orderHere_113
  exact vv_iretI X rfl rfl dX9_orderHere_113
noncomputable def f_X9_orderHere (a0 : Nat) (h : HP) : Option ((Int) × HP) :=
  (rcv h (some a0) [7]).bind fun b3 =>
  hb (f_X9_isKey b3 (hp_c h 30) h) fun v1 h2 =>
  iEQ v1 0
    ((rcv h2 (some a0) [7]).bind fun b7 =>
    hb (f_X9_isKey b7 (hp_c h2 31) h2) fun v5 h6 =>
    iEQ v5 0
      ((rcv h6 (some a0) [7]).bind fun b11 =>
      hb (f_X9_isKey b11 (hp_c h6 32) h6) fun v9 h10 =>
      iEQ v9 0
        ((rcv h10 (some a0) [7]).bind fun b15 =>
        hb (f_X9_isKey b15 (hp_c h10 33) h10) fun v13 h14 =>
        iEQ v13 0
          ((rcv h14 (some a0) [7]).bind fun b19 =>
          hb (f_X9_isKey b19 (hp_c h14 34) h14) fun v17 h18 =>
          iEQ v17 0
            ((rcv h18 (some a0) [7]).bind fun b23 =>
            hb (f_X9_isKey b23 (hp_c h18 35) h18) fun v21 h22 =>
            iEQ v21 0
              ((rcv h22 (some a0) [7]).bind fun b27 =>
              hb (f_X9_isKey b27 (hp_c h22 36) h22) fun v25 h26 =>
              iEQ v25 0
                ((rcv h26 (some a0) [7]).bind fun b31 =>
                hb (f_X9_isKey b31 (hp_c h26 29) h26) fun v29 h30 =>
                iEQ v29 0
                  ((rcv h30 (some a0) [7]).bind fun b35 =>
                  hb (f_X9_isKey b35 (hp_c h30 37) h30) fun v33 h34 =>
                  iEQ v33 0
                    (b_X9_orderHere_113 (-1) h34)
                    (b_X9_orderHere_113 8 h34))
                  (some (7, h30)))
                (some (6, h26)))
              (some (5, h22)))
            (some (4, h18)))
          (some (3, h14)))
        (some (2, h10)))
      (some (1, h6)))
    (some (0, h2))
theorem A_X9_orderHere {M : hp_M} {G : va_G} {h0 : HP} (X : hp_X M G h0 "RenamedWordsModel" "orderHere" cX9_orderHere 1 (some .int) [] 5 147) (a0 : Nat) (h : HP) : vv M G h0 1 (hp_End M G h0) jI h 0 [(0, LR (some a0))] [] (f_X9_orderHere a0 h) := by
  unfold f_X9_orderHere
  refine vv_aload_n (pc := 0) X (kf := 0) (i := 0) rfl 0 rfl dX9_orderHere_0 ?_
  refine vv_ldcwS (pc := 1) (i := 30) X (List.mem_of_getElem? (i := 30) rfl) dX9_orderHere_1 ?_
  refine vv_rcv (fun b3 t9 c9 fs9 e4 g9 k9 => ?_)
  cases List.mem_singleton.mp k9
  refine vv_callI (pc := 4) (rest := []) (by rw [e4]; rfl) (fun r8 k8 e8 => zz_callV X (m_X9_isKey (hlM X) _ _ _ _ _ e8) g9 rfl rfl q3602 q3604 qs57 q164 q3605 nh_X9 rfl (by decide) (by decide) (Nat.le_of_ble_eq_true rfl) dX9_orderHere_4) (fun v1 h2 => ?_)
  refine vv_if_eq (pc := 7) (tgt := 12) X dX9_orderHere_7 rfl ?_ ?_
  · refine vv_aload_n (pc := 12) X (kf := 0) (i := 0) rfl 0 rfl dX9_orderHere_12 ?_
    refine vv_ldcwS (pc := 13) (i := 31) X (List.mem_of_getElem? (i := 31) rfl) dX9_orderHere_13 ?_
    refine vv_rcv (fun b7 t9 c9 fs9 e8 g9 k9 => ?_)
    cases List.mem_singleton.mp k9
    refine vv_callI (pc := 16) (rest := []) (by rw [e8]; rfl) (fun r8 k8 e8 => zz_callV X (m_X9_isKey (hlM X) _ _ _ _ _ e8) g9 rfl rfl q3602 q3604 qs57 q164 q3605 nh_X9 rfl (by decide) (by decide) (Nat.le_of_ble_eq_true rfl) dX9_orderHere_16) (fun v5 h6 => ?_)
    refine vv_if_eq (pc := 19) (tgt := 24) X dX9_orderHere_19 rfl ?_ ?_
    · refine vv_aload_n (pc := 24) X (kf := 0) (i := 0) rfl 0 rfl dX9_orderHere_24 ?_
      refine vv_ldcwS (pc := 25) (i := 32) X (List.mem_of_getElem? (i := 32) rfl) dX9_orderHere_25 ?_
      refine vv_rcv (fun b11 t9 c9 fs9 e12 g9 k9 => ?_)
      cases List.mem_singleton.mp k9
      refine vv_callI (pc := 28) (rest := []) (by rw [e12]; rfl) (fun r8 k8 e8 => zz_callV X (m_X9_isKey (hlM X) _ _ _ _ _ e8) g9 rfl rfl q3602 q3604 qs57 q164 q3605 nh_X9 rfl (by decide) (by decide) (Nat.le_of_ble_eq_true rfl) dX9_orderHere_28) (fun v9 h10 => ?_)
      refine vv_if_eq (pc := 31) (tgt := 36) X dX9_orderHere_31 rfl ?_ ?_
      · refine vv_aload_n (pc := 36) X (kf := 0) (i := 0) rfl 0 rfl dX9_orderHere_36 ?_
        refine vv_ldcwS (pc := 37) (i := 33) X (List.mem_of_getElem? (i := 33) rfl) dX9_orderHere_37 ?_
        refine vv_rcv (fun b15 t9 c9 fs9 e16 g9 k9 => ?_)
        cases List.mem_singleton.mp k9
        refine vv_callI (pc := 40) (rest := []) (by rw [e16]; rfl) (fun r8 k8 e8 => zz_callV X (m_X9_isKey (hlM X) _ _ _ _ _ e8) g9 rfl rfl q3602 q3604 qs57 q164 q3605 nh_X9 rfl (by decide) (by decide) (Nat.le_of_ble_eq_true rfl) dX9_orderHere_40) (fun v13 h14 => ?_)
        refine vv_if_eq (pc := 43) (tgt := 48) X dX9_orderHere_43 rfl ?_ ?_
        · refine vv_aload_n (pc := 48) X (kf := 0) (i := 0) rfl 0 rfl dX9_orderHere_48 ?_
          refine vv_ldcwS (pc := 49) (i := 34) X (List.mem_of_getElem? (i := 34) rfl) dX9_orderHere_49 ?_
          refine vv_rcv (fun b19 t9 c9 fs9 e20 g9 k9 => ?_)
          cases List.mem_singleton.mp k9
          refine vv_callI (pc := 52) (rest := []) (by rw [e20]; rfl) (fun r8 k8 e8 => zz_callV X (m_X9_isKey (hlM X) _ _ _ _ _ e8) g9 rfl rfl q3602 q3604 qs57 q164 q3605 nh_X9 rfl (by decide) (by decide) (Nat.le_of_ble_eq_true rfl) dX9_orderHere_52) (fun v17 h18 => ?_)
          refine vv_if_eq (pc := 55) (tgt := 60) X dX9_orderHere_55 rfl ?_ ?_
          · refine vv_aload_n (pc := 60) X (kf := 0) (i := 0) rfl 0 rfl dX9_orderHere_60 ?_
            refine vv_ldcwS (pc := 61) (i := 35) X (List.mem_of_getElem? (i := 35) rfl) dX9_orderHere_61 ?_
            refine vv_rcv (fun b23 t9 c9 fs9 e24 g9 k9 => ?_)
            cases List.mem_singleton.mp k9
            refine vv_callI (pc := 64) (rest := []) (by rw [e24]; rfl) (fun r8 k8 e8 => zz_callV X (m_X9_isKey (hlM X) _ _ _ _ _ e8) g9 rfl rfl q3602 q3604 qs57 q164 q3605 nh_X9 rfl (by decide) (by decide) (Nat.le_of_ble_eq_true rfl) dX9_orderHere_64) (fun v21 h22 => ?_)
            refine vv_if_eq (pc := 67) (tgt := 72) X dX9_orderHere_67 rfl ?_ ?_
            · refine vv_aload_n (pc := 72) X (kf := 0) (i := 0) rfl 0 rfl dX9_orderHere_72 ?_
              refine vv_ldcwS (pc := 73) (i := 36) X (List.mem_of_getElem? (i := 36) rfl) dX9_orderHere_73 ?_
              refine vv_rcv (fun b27 t9 c9 fs9 e28 g9 k9 => ?_)
              cases List.mem_singleton.mp k9
              refine vv_callI (pc := 76) (rest := []) (by rw [e28]; rfl) (fun r8 k8 e8 => zz_callV X (m_X9_isKey (hlM X) _ _ _ _ _ e8) g9 rfl rfl q3602 q3604 qs57 q164 q3605 nh_X9 rfl (by decide) (by decide) (Nat.le_of_ble_eq_true rfl) dX9_orderHere_76) (fun v25 h26 => ?_)
              refine vv_if_eq (pc := 79) (tgt := 85) X dX9_orderHere_79 rfl ?_ ?_
              · refine vv_aload_n (pc := 85) X (kf := 0) (i := 0) rfl 0 rfl dX9_orderHere_85 ?_
                refine vv_ldcS (pc := 86) (i := 29) X (List.mem_of_getElem? (i := 29) rfl) dX9_orderHere_86 ?_
                refine vv_rcv (fun b31 t9 c9 fs9 e32 g9 k9 => ?_)
                cases List.mem_singleton.mp k9
                refine vv_callI (pc := 88) (rest := []) (by rw [e32]; rfl) (fun r8 k8 e8 => zz_callV X (m_X9_isKey (hlM X) _ _ _ _ _ e8) g9 rfl rfl q3602 q3604 qs57 q164 q3605 nh_X9 rfl (by decide) (by decide) (Nat.le_of_ble_eq_true rfl) dX9_orderHere_88) (fun v29 h30 => ?_)
                refine vv_if_eq (pc := 91) (tgt := 97) X dX9_orderHere_91 rfl ?_ ?_
                · refine vv_aload_n (pc := 97) X (kf := 0) (i := 0) rfl 0 rfl dX9_orderHere_97 ?_
                  refine vv_ldcwS (pc := 98) (i := 37) X (List.mem_of_getElem? (i := 37) rfl) dX9_orderHere_98 ?_
                  refine vv_rcv (fun b35 t9 c9 fs9 e36 g9 k9 => ?_)
                  cases List.mem_singleton.mp k9
                  refine vv_callI (pc := 101) (rest := []) (by rw [e36]; rfl) (fun r8 k8 e8 => zz_callV X (m_X9_isKey (hlM X) _ _ _ _ _ e8) g9 rfl rfl q3602 q3604 qs57 q164 q3605 nh_X9 rfl (by decide) (by decide) (Nat.le_of_ble_eq_true rfl) dX9_orderHere_101) (fun v33 h34 => ?_)
                  refine vv_if_eq (pc := 104) (tgt := 112) X dX9_orderHere_104 rfl ?_ ?_
                  · refine vv_iconst (pc := 112) X dX9_orderHere_112 ?_
                    exact vv_sub [] (by rfl) (B_X9_orderHere_113 X _ _)
                  · refine vv_bipush (pc := 107) X (by decide) dX9_orderHere_107 ?_
                    refine vv_goto (pc := 109) (tgt := 113) X dX9_orderHere_109 rfl ?_
                    exact vv_sub [] (by rfl) (B_X9_orderHere_113 X _ _)
                · refine vv_bipush (pc := 94) X (by decide) dX9_orderHere_94 ?_
                  exact vv_iretI X rfl rfl dX9_orderHere_96
              · refine vv_bipush (pc := 82) X (by decide) dX9_orderHere_82 ?_
                exact vv_iretI X rfl rfl dX9_orderHere_84
            · refine vv_iconst (pc := 70) X dX9_orderHere_70 ?_
              exact vv_iretI X rfl rfl dX9_orderHere_71
          · refine vv_iconst (pc := 58) X dX9_orderHere_58 ?_
            exact vv_iretI X rfl rfl dX9_orderHere_59
        · refine vv_iconst (pc := 46) X dX9_orderHere_46 ?_
          exact vv_iretI X rfl rfl dX9_orderHere_47
      · refine vv_iconst (pc := 34) X dX9_orderHere_34 ?_
        exact vv_iretI X rfl rfl dX9_orderHere_35
    · refine vv_iconst (pc := 22) X dX9_orderHere_22 ?_
      exact vv_iretI X rfl rfl dX9_orderHere_23
  · refine vv_iconst (pc := 10) X dX9_orderHere_10 ?_
    exact vv_iretI X rfl rfl dX9_orderHere_11
theorem m_X9_orderHere {l : Launch} (hl : l.stackTraces = false) {G : va_G} (a0 : Nat) (h : HP) : ∀ r hf, f_X9_orderHere a0 h = some (r, hf) → Ct l yX9_orderHere (ws_ yX9_orderHere cX9_orderHere 1 (some .int)) 5 147 G h [.ref a0] (jI r) hf :=
  zz_ofW hl (by decide +kernel) (lv := [(0, LR (some a0))]) (by simp [lv_args, lvL, lvV, zz_rfc, zz_rfs, zz_ci, zz_cr, zz_cj, zz_cf, zz_cd]) (by simp [lg_sl, zz_rfc, zz_ci, zz_cr, zz_cj, zz_cf, zz_cd]) (fun _ X => A_X9_orderHere X a0 h)
-- X9_named RenamedWordsModel.named()I
noncomputable def b_X9_named_28 (h : HP) : Option ((Int) × HP) :=
  some (0, h)
theorem B_X9_named_28 {M : hp_M} {G : va_G} {h0 : HP} (X : hp_X M G h0 "RenamedWordsModel" "named" cX9_named 2 (some .int) [] 3 88) (h : HP) : vv M G h0 2 (hp_End M G h0) jI h 28 [] [] (b_X9_named_28 h) := by
  unfold b_X9_named_28
  refine vv_iconst (pc := 28) X dX9_named_28 ?_
  exact vv_iretI X rfl rfl dX9_named_29
noncomputable def b_X9_named_21 (x0 : Option Nat) (s0 : Int) (s1 : Option Nat) (h : HP) : Option ((Int) × HP) :=
  (rcv h s1 [7]).bind fun b11 =>
  hb (f_X9_faulty b11 s0 4 h) fun v9 h10 =>
  iEQ v9 0
    ((rcv h10 x0 [7]).bind fun b15 =>
    hb (f_X9_found b15 h10) fun v13 h14 =>
    (rcv h14 x0 [7]).bind fun b19 =>
    hb (f_X9_advance b19 h14) fun _ h18 =>
    some (v13, h18))
    (b_X9_named_28 h10)
theorem B_X9_named_21 {M : hp_M} {G : va_G} {h0 : HP} (X : hp_X M G h0 "RenamedWordsModel" "named" cX9_named 2 (some .int) [] 3 88) (x0 : Option Nat) (s0 : Int) (s1 : Option Nat) (h : HP) : vv M G h0 2 (hp_End M G h0) jI h 21 [(0, LR x0)] [LI s0, LR s1] (b_X9_named_21 x0 s0 s1 h) := by
  unfold b_X9_named_21
  refine vv_iconst (pc := 21) X dX9_named_21 ?_
  refine vv_rcv (fun b11 t9 c9 fs9 e12 g9 k9 => ?_)
  cases List.mem_singleton.mp k9
  refine vv_callI (pc := 22) (rest := []) (by rw [e12]; rfl) (fun r8 k8 e8 => zz_callV X (m_X9_faulty (hlM X) _ _ _ _ _ _ e8) g9 rfl rfl q3612 q3614 qs59 q164 q3615 nh_X9 rfl (by decide) (by decide) (Nat.le_of_ble_eq_true rfl) dX9_named_22) (fun v9 h10 => ?_)
  refine vv_if_eq (pc := 25) (tgt := 30) X dX9_named_25 rfl ?_ ?_
  · refine vv_aload_n (pc := 30) X (kf := 0) (i := 0) rfl 0 rfl dX9_named_30 ?_
    refine vv_rcv (fun b15 t9 c9 fs9 e16 g9 k9 => ?_)
    cases List.mem_singleton.mp k9
    refine vv_callI (pc := 31) (rest := []) (by rw [e16]; rfl) (fun r8 k8 e8 => zz_callV X (m_X9_found (hlM X) _ _ _ _ e8) g9 rfl rfl q3633 q3635 qs64 q164 q3636 nh_X9 rfl (by decide) (by decide) (Nat.le_of_ble_eq_true rfl) dX9_named_31) (fun v13 h14 => ?_)
    refine vv_istore_n (pc := 34) (lv' := [(1, LI v13), (0, LR x0)]) X (kf := 1) (i := 1) rfl (by decide) rfl dX9_named_34 ?_
    refine vv_aload_n (pc := 35) X (kf := 0) (i := 0) rfl 1 rfl dX9_named_35 ?_
    refine vv_rcv (fun b19 t9 c9 fs9 e20 g9 k9 => ?_)
    cases List.mem_singleton.mp k9
    refine vv_callV (pc := 36) (rest := []) (by rw [e20]; rfl) (fun r8 k8 e8 => zz_callV X (m_X9_advance (hlM X) _ _ _ _ e8) g9 rfl rfl q3581 q3583 qs53 q164 q3584 nh_X9 rfl (by decide) (by decide) (Nat.le_of_ble_eq_true rfl) dX9_named_36) (fun v17 h18 => ?_)
    refine vv_iload_n (pc := 39) X (kf := 1) (i := 1) rfl 0 rfl dX9_named_39 ?_
    exact vv_iretI X rfl rfl dX9_named_40
  · exact vv_sub [] (by rfl) (B_X9_named_28 X _)
noncomputable def f_X9_named (a0 : Nat) (h : HP) : Option ((Int) × HP) :=
  (rcv h (some a0) [7]).bind fun b3 =>
  hb (f_X9_noName b3 h) fun v1 h2 =>
  iEQ v1 0
    ((rcv h2 (some a0) [7]).bind fun b7 =>
    hb (f_X9_found b7 h2) fun v5 h6 =>
    iEQ v5 (-1)
      (b_X9_named_21 (some a0) 1 (some a0) h6)
      (b_X9_named_21 (some a0) 0 (some a0) h6))
    (b_X9_named_28 h2)
theorem A_X9_named {M : hp_M} {G : va_G} {h0 : HP} (X : hp_X M G h0 "RenamedWordsModel" "named" cX9_named 2 (some .int) [] 3 88) (a0 : Nat) (h : HP) : vv M G h0 2 (hp_End M G h0) jI h 0 [(0, LR (some a0))] [] (f_X9_named a0 h) := by
  unfold f_X9_named
  refine vv_aload_n (pc := 0) X (kf := 0) (i := 0) rfl 0 rfl dX9_named_0 ?_
  refine vv_rcv (fun b3 t9 c9 fs9 e4 g9 k9 => ?_)
  cases List.mem_singleton.mp k9
  refine vv_callI (pc := 1) (rest := []) (by rw [e4]; rfl) (fun r8 k8 e8 => zz_callV X (m_X9_noName (hlM X) _ _ _ _ e8) g9 rfl rfl q3629 q3631 qs63 q164 q3632 nh_X9 rfl (by decide) (by decide) (Nat.le_of_ble_eq_true rfl) dX9_named_1) (fun v1 h2 => ?_)
  refine vv_if_ne (pc := 4) (tgt := 28) X dX9_named_4 rfl ?_ ?_
  · exact vv_sub [] (by rfl) (B_X9_named_28 X _)
  · refine vv_aload_n (pc := 7) X (kf := 0) (i := 0) rfl 0 rfl dX9_named_7 ?_
    refine vv_aload_n (pc := 8) X (kf := 0) (i := 0) rfl 0 rfl dX9_named_8 ?_
    refine vv_rcv (fun b7 t9 c9 fs9 e8 g9 k9 => ?_)
    cases List.mem_singleton.mp k9
    refine vv_callI (pc := 9) (rest := [LR (some a0)]) (by rw [e8]; rfl) (fun r8 k8 e8 => zz_callV X (m_X9_found (hlM X) _ _ _ _ e8) g9 rfl rfl q3633 q3635 qs64 q164 q3636 nh_X9 rfl (by decide) (by decide) (Nat.le_of_ble_eq_true rfl) dX9_named_9) (fun v5 h6 => ?_)
    refine vv_iconst (pc := 12) X dX9_named_12 ?_
    refine vv_icmp_ne (pc := 13) (tgt := 20) X dX9_named_13 rfl ?_ ?_
    · refine vv_iconst (pc := 20) X dX9_named_20 ?_
      exact B_X9_named_21 X _ _ _ _
    · refine vv_iconst (pc := 16) X dX9_named_16 ?_
      refine vv_goto (pc := 17) (tgt := 21) X dX9_named_17 rfl ?_
      exact B_X9_named_21 X _ _ _ _
theorem m_X9_named {l : Launch} (hl : l.stackTraces = false) {G : va_G} (a0 : Nat) (h : HP) : ∀ r hf, f_X9_named a0 h = some (r, hf) → Ct l yX9_named (ws_ yX9_named cX9_named 2 (some .int)) 3 88 G h [.ref a0] (jI r) hf :=
  zz_ofW hl (by decide +kernel) (lv := [(0, LR (some a0))]) (by simp [lv_args, lvL, lvV, zz_rfc, zz_rfs, zz_ci, zz_cr, zz_cj, zz_cf, zz_cd]) (by simp [lg_sl, zz_rfc, zz_ci, zz_cr, zz_cj, zz_cf, zz_cd]) (fun _ X => A_X9_named X a0 h)
-- X9_firstHere RenamedWordsModel.firstHere(I)I
noncomputable def f_X9_firstHere (a0 : Nat) (a1 : Int) (h : HP) : Option ((Int) × HP) :=
  iIN a1
    (if a1 = 3 then
      (rcv h (some a0) [7]).bind fun b3 =>
      hb (f_X9_named b3 h) fun v1 h2 =>
      some (v1, h2)
    else
    if a1 = 4 then
      (rcv h (some a0) [7]).bind fun b7 =>
      hb (f_X9_number b7 0 59 h) fun v5 h6 =>
      some (v5, h6)
    else
    if a1 = 5 then
      (rcv h (some a0) [7]).bind fun b11 =>
      hb (f_X9_number b11 0 200 h) fun v9 h10 =>
      some (v9, h10)
    else
    if a1 = 6 then
      (rcv h (some a0) [7]).bind fun b15 =>
      hb (f_X9_named b15 h) fun v13 h14 =>
      some (v13, h14)
    else
    if a1 = 7 then
      (rcv h (some a0) [7]).bind fun b19 =>
      hb (f_X9_number b19 0 26 h) fun v17 h18 =>
      some (v17, h18)
    else
    if a1 = 8 then
      (rcv h (some a0) [7]).bind fun b23 =>
      hb (f_X9_number b23 0 20 h) fun v21 h22 =>
      some (v21, h22)
    else
    (rcv h (some a0) [7]).bind fun b27 =>
    hb (f_X9_number b27 0 200 h) fun v25 h26 =>
    some (v25, h26))
theorem A_X9_firstHere {M : hp_M} {G : va_G} {h0 : HP} (X : hp_X M G h0 "RenamedWordsModel" "firstHere" cX9_firstHere 2 (some .int) [] 4 119) (a0 : Nat) (a1 : Int) (h : HP) : vv M G h0 2 (hp_End M G h0) jI h 0 [(0, LR (some a0)), (1, LI a1)] [] (f_X9_firstHere a0 a1 h) := by
  unfold f_X9_firstHere
  refine vv_iload_n (pc := 0) X (kf := 1) (i := 1) rfl 1 rfl dX9_firstHere_0 ?_
  refine vv_iIN (fun hr => ?_)
  refine vv_if (fun e0 => ?_) (fun e0 => ?_)
  · refine vv_tsw (pc := 1) (off := 39) (tgt := 40) X dX9_firstHere_1 hr (by omega) (by omega) (by rw [e0]; rfl) rfl ?_
    refine vv_aload_n (pc := 40) X (kf := 0) (i := 0) rfl 0 rfl dX9_firstHere_40 ?_
    refine vv_rcv (fun b3 t9 c9 fs9 e4 g9 k9 => ?_)
    cases List.mem_singleton.mp k9
    refine vv_callI (pc := 41) (rest := []) (by rw [e4]; rfl) (fun r8 k8 e8 => zz_callV X (m_X9_named (hlM X) _ _ _ _ e8) g9 rfl rfl q3694 q3696 qs75 q164 q3697 nh_X9 rfl (by decide) (by decide) (Nat.le_of_ble_eq_true rfl) dX9_firstHere_41) (fun v1 h2 => ?_)
    exact vv_iretI X rfl rfl dX9_firstHere_44
  refine vv_if (fun e1 => ?_) (fun e1 => ?_)
  · refine vv_tsw (pc := 1) (off := 44) (tgt := 45) X dX9_firstHere_1 hr (by omega) (by omega) (by rw [e1]; rfl) rfl ?_
    refine vv_aload_n (pc := 45) X (kf := 0) (i := 0) rfl 0 rfl dX9_firstHere_45 ?_
    refine vv_iconst (pc := 46) X dX9_firstHere_46 ?_
    refine vv_bipush (pc := 47) X (by decide) dX9_firstHere_47 ?_
    refine vv_rcv (fun b7 t9 c9 fs9 e8 g9 k9 => ?_)
    cases List.mem_singleton.mp k9
    refine vv_callI (pc := 49) (rest := []) (by rw [e8]; rfl) (fun r8 k8 e8 => zz_callV X (m_X9_number (hlM X) _ _ _ _ _ _ e8) g9 rfl rfl q3650 q3652 qs68 q164 q3653 nh_X9 rfl (by decide) (by decide) (Nat.le_of_ble_eq_true rfl) dX9_firstHere_49) (fun v5 h6 => ?_)
    exact vv_iretI X rfl rfl dX9_firstHere_52
  refine vv_if (fun e2 => ?_) (fun e2 => ?_)
  · refine vv_tsw (pc := 1) (off := 68) (tgt := 69) X dX9_firstHere_1 hr (by omega) (by omega) (by rw [e2]; rfl) rfl ?_
    refine vv_aload_n (pc := 69) X (kf := 0) (i := 0) rfl 0 rfl dX9_firstHere_69 ?_
    refine vv_iconst (pc := 70) X dX9_firstHere_70 ?_
    refine vv_sipush (pc := 71) X (by decide) dX9_firstHere_71 ?_
    refine vv_rcv (fun b11 t9 c9 fs9 e12 g9 k9 => ?_)
    cases List.mem_singleton.mp k9
    refine vv_callI (pc := 74) (rest := []) (by rw [e12]; rfl) (fun r8 k8 e8 => zz_callV X (m_X9_number (hlM X) _ _ _ _ _ _ e8) g9 rfl rfl q3650 q3652 qs68 q164 q3653 nh_X9 rfl (by decide) (by decide) (Nat.le_of_ble_eq_true rfl) dX9_firstHere_74) (fun v9 h10 => ?_)
    exact vv_iretI X rfl rfl dX9_firstHere_77
  refine vv_if (fun e3 => ?_) (fun e3 => ?_)
  · refine vv_tsw (pc := 1) (off := 39) (tgt := 40) X dX9_firstHere_1 hr (by omega) (by omega) (by rw [e3]; rfl) rfl ?_
    refine vv_aload_n (pc := 40) X (kf := 0) (i := 0) rfl 0 rfl dX9_firstHere_40 ?_
    refine vv_rcv (fun b15 t9 c9 fs9 e16 g9 k9 => ?_)
    cases List.mem_singleton.mp k9
    refine vv_callI (pc := 41) (rest := []) (by rw [e16]; rfl) (fun r8 k8 e8 => zz_callV X (m_X9_named (hlM X) _ _ _ _ e8) g9 rfl rfl q3694 q3696 qs75 q164 q3697 nh_X9 rfl (by decide) (by decide) (Nat.le_of_ble_eq_true rfl) dX9_firstHere_41) (fun v13 h14 => ?_)
    exact vv_iretI X rfl rfl dX9_firstHere_44
  refine vv_if (fun e4 => ?_) (fun e4 => ?_)
  · refine vv_tsw (pc := 1) (off := 52) (tgt := 53) X dX9_firstHere_1 hr (by omega) (by omega) (by rw [e4]; rfl) rfl ?_
    refine vv_aload_n (pc := 53) X (kf := 0) (i := 0) rfl 0 rfl dX9_firstHere_53 ?_
    refine vv_iconst (pc := 54) X dX9_firstHere_54 ?_
    refine vv_bipush (pc := 55) X (by decide) dX9_firstHere_55 ?_
    refine vv_rcv (fun b19 t9 c9 fs9 e20 g9 k9 => ?_)
    cases List.mem_singleton.mp k9
    refine vv_callI (pc := 57) (rest := []) (by rw [e20]; rfl) (fun r8 k8 e8 => zz_callV X (m_X9_number (hlM X) _ _ _ _ _ _ e8) g9 rfl rfl q3650 q3652 qs68 q164 q3653 nh_X9 rfl (by decide) (by decide) (Nat.le_of_ble_eq_true rfl) dX9_firstHere_57) (fun v17 h18 => ?_)
    exact vv_iretI X rfl rfl dX9_firstHere_60
  refine vv_if (fun e5 => ?_) (fun e5 => ?_)
  · refine vv_tsw (pc := 1) (off := 60) (tgt := 61) X dX9_firstHere_1 hr (by omega) (by omega) (by rw [e5]; rfl) rfl ?_
    refine vv_aload_n (pc := 61) X (kf := 0) (i := 0) rfl 0 rfl dX9_firstHere_61 ?_
    refine vv_iconst (pc := 62) X dX9_firstHere_62 ?_
    refine vv_bipush (pc := 63) X (by decide) dX9_firstHere_63 ?_
    refine vv_rcv (fun b23 t9 c9 fs9 e24 g9 k9 => ?_)
    cases List.mem_singleton.mp k9
    refine vv_callI (pc := 65) (rest := []) (by rw [e24]; rfl) (fun r8 k8 e8 => zz_callV X (m_X9_number (hlM X) _ _ _ _ _ _ e8) g9 rfl rfl q3650 q3652 qs68 q164 q3653 nh_X9 rfl (by decide) (by decide) (Nat.le_of_ble_eq_true rfl) dX9_firstHere_65) (fun v21 h22 => ?_)
    exact vv_iretI X rfl rfl dX9_firstHere_68
  refine vv_tswD (pc := 1) (tgt := 69) X dX9_firstHere_1 hr (by omega) rfl ?_
  refine vv_aload_n (pc := 69) X (kf := 0) (i := 0) rfl 0 rfl dX9_firstHere_69 ?_
  refine vv_iconst (pc := 70) X dX9_firstHere_70 ?_
  refine vv_sipush (pc := 71) X (by decide) dX9_firstHere_71 ?_
  refine vv_rcv (fun b27 t9 c9 fs9 e28 g9 k9 => ?_)
  cases List.mem_singleton.mp k9
  refine vv_callI (pc := 74) (rest := []) (by rw [e28]; rfl) (fun r8 k8 e8 => zz_callV X (m_X9_number (hlM X) _ _ _ _ _ _ e8) g9 rfl rfl q3650 q3652 qs68 q164 q3653 nh_X9 rfl (by decide) (by decide) (Nat.le_of_ble_eq_true rfl) dX9_firstHere_74) (fun v25 h26 => ?_)
  exact vv_iretI X rfl rfl dX9_firstHere_77
theorem m_X9_firstHere {l : Launch} (hl : l.stackTraces = false) {G : va_G} (a0 : Nat) (a1 : Int) (h : HP) : ∀ r hf, f_X9_firstHere a0 a1 h = some (r, hf) → Ct l yX9_firstHere (ws_ yX9_firstHere cX9_firstHere 2 (some .int)) 4 119 G h [.ref a0, .int (iI a1)] (jI r) hf :=
  zz_ofW hl (by decide +kernel) (lv := [(0, LR (some a0)), (1, LI a1)]) (by simp [lv_args, lvL, lvV, zz_rfc, zz_rfs, zz_ci, zz_cr, zz_cj, zz_cf, zz_cd]) (by simp [lg_sl, zz_rfc, zz_ci, zz_cr, zz_cj, zz_cf, zz_cd]) (fun _ X => A_X9_firstHere X a0 a1 h)
-- X9_lettersHere RenamedWordsModel.lettersHere()I
noncomputable def b_X9_lettersHere_14 (x0 : Option Nat) (s0 : Int) (s1 : Option Nat) (h : HP) : Option ((Int) × HP) :=
  (rcv h s1 [7]).bind fun b4 =>
  hb (f_X9_faulty b4 s0 1 h) fun v2 h3 =>
  iEQ v2 0
    ((rdI h3 x0 [7] 13).bind fun v6 =>
    (rdR h3 x0 [7] 25).bind fun v7 =>
    (rdI h3 x0 [7] 29).bind fun v8 =>
    (rcv h3 x0 [7]).bind fun b11 =>
    hb (f_X9_length b11 h3) fun v9 h10 =>
    (astI h10 .int v7 v8 v9).bind fun h13 =>
    (rcv h13 x0 [7]).bind fun b16 =>
    hb (f_X9_advance b16 h13) fun _ h15 =>
    some (v6, h15))
    (some (0, h3))
theorem B_X9_lettersHere_14 {M : hp_M} {G : va_G} {h0 : HP} (X : hp_X M G h0 "RenamedWordsModel" "lettersHere" cX9_lettersHere 2 (some .int) [] 3 88) (x0 : Option Nat) (s0 : Int) (s1 : Option Nat) (h : HP) : vv M G h0 2 (hp_End M G h0) jI h 14 [(0, LR x0)] [LI s0, LR s1] (b_X9_lettersHere_14 x0 s0 s1 h) := by
  unfold b_X9_lettersHere_14
  refine vv_iconst (pc := 14) X dX9_lettersHere_14 ?_
  refine vv_rcv (fun b4 t9 c9 fs9 e5 g9 k9 => ?_)
  cases List.mem_singleton.mp k9
  refine vv_callI (pc := 15) (rest := []) (by rw [e5]; rfl) (fun r8 k8 e8 => zz_callV X (m_X9_faulty (hlM X) _ _ _ _ _ _ e8) g9 rfl rfl q3612 q3614 qs59 q164 q3615 nh_X9 rfl (by decide) (by decide) (Nat.le_of_ble_eq_true rfl) dX9_lettersHere_15) (fun v2 h3 => ?_)
  refine vv_if_eq (pc := 18) (tgt := 23) X dX9_lettersHere_18 rfl ?_ ?_
  · refine vv_aload_n (pc := 23) X (kf := 0) (i := 0) rfl 0 rfl dX9_lettersHere_23 ?_
    refine vv_getI (pc := 24) X (fun _ z => by cases List.mem_singleton.mp z; exact fl_X9_166_7) dX9_lettersHere_24 (fun v6 => ?_)
    refine vv_istore_n (pc := 27) (lv' := [(1, LI v6), (0, LR x0)]) X (kf := 1) (i := 1) rfl (by decide) rfl dX9_lettersHere_27 ?_
    refine vv_aload_n (pc := 28) X (kf := 0) (i := 0) rfl 1 rfl dX9_lettersHere_28 ?_
    refine vv_getR (pc := 29) X (fun _ z => by cases List.mem_singleton.mp z; exact fl_X9_54_7) dX9_lettersHere_29 (fun v7 => ?_)
    refine vv_aload_n (pc := 32) X (kf := 0) (i := 0) rfl 1 rfl dX9_lettersHere_32 ?_
    refine vv_getI (pc := 33) X (fun _ z => by cases List.mem_singleton.mp z; exact fl_X9_286_7) dX9_lettersHere_33 (fun v8 => ?_)
    refine vv_aload_n (pc := 36) X (kf := 0) (i := 0) rfl 1 rfl dX9_lettersHere_36 ?_
    refine vv_rcv (fun b11 t9 c9 fs9 e12 g9 k9 => ?_)
    cases List.mem_singleton.mp k9
    refine vv_callI (pc := 37) (rest := [LI v8, LR v7]) (by rw [e12]; rfl) (fun r8 k8 e8 => zz_callV X (m_X9_length (hlM X) _ _ _ _ e8) g9 rfl rfl q3606 q3608 qs58 q164 q3609 nh_X9 rfl (by decide) (by decide) (Nat.le_of_ble_eq_true rfl) dX9_lettersHere_37) (fun v9 h10 => ?_)
    refine vv_iastore (pc := 40) X dX9_lettersHere_40 (fun h13 => ?_)
    refine vv_aload_n (pc := 41) X (kf := 0) (i := 0) rfl 1 rfl dX9_lettersHere_41 ?_
    refine vv_rcv (fun b16 t9 c9 fs9 e17 g9 k9 => ?_)
    cases List.mem_singleton.mp k9
    refine vv_callV (pc := 42) (rest := []) (by rw [e17]; rfl) (fun r8 k8 e8 => zz_callV X (m_X9_advance (hlM X) _ _ _ _ e8) g9 rfl rfl q3581 q3583 qs53 q164 q3584 nh_X9 rfl (by decide) (by decide) (Nat.le_of_ble_eq_true rfl) dX9_lettersHere_42) (fun v14 h15 => ?_)
    refine vv_iload_n (pc := 45) X (kf := 1) (i := 1) rfl 0 rfl dX9_lettersHere_45 ?_
    exact vv_iretI X rfl rfl dX9_lettersHere_46
  · refine vv_iconst (pc := 21) X dX9_lettersHere_21 ?_
    exact vv_iretI X rfl rfl dX9_lettersHere_22
noncomputable def f_X9_lettersHere (a0 : Nat) (h : HP) : Option ((Int) × HP) :=
  (rdI h (some a0) [7] 15).bind fun v1 =>
  iEQ v1 1
    (b_X9_lettersHere_14 (some a0) 0 (some a0) h)
    (b_X9_lettersHere_14 (some a0) 1 (some a0) h)
theorem A_X9_lettersHere {M : hp_M} {G : va_G} {h0 : HP} (X : hp_X M G h0 "RenamedWordsModel" "lettersHere" cX9_lettersHere 2 (some .int) [] 3 88) (a0 : Nat) (h : HP) : vv M G h0 2 (hp_End M G h0) jI h 0 [(0, LR (some a0))] [] (f_X9_lettersHere a0 h) := by
  unfold f_X9_lettersHere
  refine vv_aload_n (pc := 0) X (kf := 0) (i := 0) rfl 0 rfl dX9_lettersHere_0 ?_
  refine vv_aload_n (pc := 1) X (kf := 0) (i := 0) rfl 0 rfl dX9_lettersHere_1 ?_
  refine vv_getI (pc := 2) X (fun _ z => by cases List.mem_singleton.mp z; exact fl_X9_172_7) dX9_lettersHere_2 (fun v1 => ?_)
  refine vv_iconst (pc := 5) X dX9_lettersHere_5 ?_
  refine vv_icmp_eq (pc := 6) (tgt := 13) X dX9_lettersHere_6 rfl ?_ ?_
  · refine vv_iconst (pc := 13) X dX9_lettersHere_13 ?_
    exact B_X9_lettersHere_14 X _ _ _ _
  · refine vv_iconst (pc := 9) X dX9_lettersHere_9 ?_
    refine vv_goto (pc := 10) (tgt := 14) X dX9_lettersHere_10 rfl ?_
    exact B_X9_lettersHere_14 X _ _ _ _
theorem m_X9_lettersHere {l : Launch} (hl : l.stackTraces = false) {G : va_G} (a0 : Nat) (h : HP) : ∀ r hf, f_X9_lettersHere a0 h = some (r, hf) → Ct l yX9_lettersHere (ws_ yX9_lettersHere cX9_lettersHere 2 (some .int)) 3 88 G h [.ref a0] (jI r) hf :=
  zz_ofW hl (by decide +kernel) (lv := [(0, LR (some a0))]) (by simp [lv_args, lvL, lvV, zz_rfc, zz_rfs, zz_ci, zz_cr, zz_cj, zz_cf, zz_cd]) (by simp [lg_sl, zz_rfc, zz_ci, zz_cr, zz_cj, zz_cf, zz_cd]) (fun _ X => A_X9_lettersHere X a0 h)
-- X9_twoHere RenamedWordsModel.twoHere()I
noncomputable def b_X9_twoHere_65 (h : HP) : Option ((Int) × HP) :=
  some (0, h)
theorem B_X9_twoHere_65 {M : hp_M} {G : va_G} {h0 : HP} (X : hp_X M G h0 "RenamedWordsModel" "twoHere" cX9_twoHere 2 (some .int) [] 3 88) (h : HP) : vv M G h0 2 (hp_End M G h0) jI h 65 [] [] (b_X9_twoHere_65 h) := by
  unfold b_X9_twoHere_65
  refine vv_iconst (pc := 65) X dX9_twoHere_65 ?_
  exact vv_iretI X rfl rfl dX9_twoHere_66
noncomputable def b_X9_twoHere_58 (x0 : Option Nat) (s0 : Int) (s1 : Option Nat) (h : HP) : Option ((Int) × HP) :=
  (rcv h s1 [7]).bind fun b12 =>
  hb (f_X9_faulty b12 s0 2 h) fun v10 h11 =>
  iEQ v10 0
    ((rdR h11 x0 [7] 11).bind fun v14 =>
    (rdI h11 x0 [7] 13).bind fun v15 =>
    (aldI h11 .int v14 v15).bind fun v16 =>
    (rdR h11 x0 [7] 11).bind fun v17 =>
    (rdI h11 x0 [7] 13).bind fun v18 =>
    (aldI h11 .int v17 (v18 + 1)).bind fun v19 =>
    (rcv h11 x0 [7]).bind fun b22 =>
    hb (f_X9_advance b22 h11) fun _ h21 =>
    some ((((26 * (v16 - 97)) + v19) - 97), h21))
    (b_X9_twoHere_65 h11)
theorem B_X9_twoHere_58 {M : hp_M} {G : va_G} {h0 : HP} (X : hp_X M G h0 "RenamedWordsModel" "twoHere" cX9_twoHere 2 (some .int) [] 3 88) (x0 : Option Nat) (s0 : Int) (s1 : Option Nat) (h : HP) : vv M G h0 2 (hp_End M G h0) jI h 58 [(0, LR x0)] [LI s0, LR s1] (b_X9_twoHere_58 x0 s0 s1 h) := by
  unfold b_X9_twoHere_58
  refine vv_iconst (pc := 58) X dX9_twoHere_58 ?_
  refine vv_rcv (fun b12 t9 c9 fs9 e13 g9 k9 => ?_)
  cases List.mem_singleton.mp k9
  refine vv_callI (pc := 59) (rest := []) (by rw [e13]; rfl) (fun r8 k8 e8 => zz_callV X (m_X9_faulty (hlM X) _ _ _ _ _ _ e8) g9 rfl rfl q3612 q3614 qs59 q164 q3615 nh_X9 rfl (by decide) (by decide) (Nat.le_of_ble_eq_true rfl) dX9_twoHere_59) (fun v10 h11 => ?_)
  refine vv_if_eq (pc := 62) (tgt := 67) X dX9_twoHere_62 rfl ?_ ?_
  · refine vv_bipush (pc := 67) X (by decide) dX9_twoHere_67 ?_
    refine vv_aload_n (pc := 69) X (kf := 0) (i := 0) rfl 0 rfl dX9_twoHere_69 ?_
    refine vv_getR (pc := 70) X (fun _ z => by cases List.mem_singleton.mp z; exact fl_X9_38_7) dX9_twoHere_70 (fun v14 => ?_)
    refine vv_aload_n (pc := 73) X (kf := 0) (i := 0) rfl 0 rfl dX9_twoHere_73 ?_
    refine vv_getI (pc := 74) X (fun _ z => by cases List.mem_singleton.mp z; exact fl_X9_166_7) dX9_twoHere_74 (fun v15 => ?_)
    refine vv_iaload (pc := 77) X dX9_twoHere_77 (fun v16 => ?_)
    refine vv_bipush (pc := 78) X (by decide) dX9_twoHere_78 ?_
    refine vv_isub (pc := 80) X dX9_twoHere_80 ?_
    refine vv_imul (pc := 81) X dX9_twoHere_81 ?_
    refine vv_aload_n (pc := 82) X (kf := 0) (i := 0) rfl 0 rfl dX9_twoHere_82 ?_
    refine vv_getR (pc := 83) X (fun _ z => by cases List.mem_singleton.mp z; exact fl_X9_38_7) dX9_twoHere_83 (fun v17 => ?_)
    refine vv_aload_n (pc := 86) X (kf := 0) (i := 0) rfl 0 rfl dX9_twoHere_86 ?_
    refine vv_getI (pc := 87) X (fun _ z => by cases List.mem_singleton.mp z; exact fl_X9_166_7) dX9_twoHere_87 (fun v18 => ?_)
    refine vv_iconst (pc := 90) X dX9_twoHere_90 ?_
    refine vv_iadd (pc := 91) X dX9_twoHere_91 ?_
    refine vv_iaload (pc := 92) X dX9_twoHere_92 (fun v19 => ?_)
    refine vv_iadd (pc := 93) X dX9_twoHere_93 ?_
    refine vv_bipush (pc := 94) X (by decide) dX9_twoHere_94 ?_
    refine vv_isub (pc := 96) X dX9_twoHere_96 ?_
    refine vv_istore_n (pc := 97) (lv' := [(1, LI (((26 * (v16 - 97)) + v19) - 97)), (0, LR x0)]) X (kf := 1) (i := 1) rfl (by decide) rfl dX9_twoHere_97 ?_
    refine vv_aload_n (pc := 98) X (kf := 0) (i := 0) rfl 1 rfl dX9_twoHere_98 ?_
    refine vv_rcv (fun b22 t9 c9 fs9 e23 g9 k9 => ?_)
    cases List.mem_singleton.mp k9
    refine vv_callV (pc := 99) (rest := []) (by rw [e23]; rfl) (fun r8 k8 e8 => zz_callV X (m_X9_advance (hlM X) _ _ _ _ e8) g9 rfl rfl q3581 q3583 qs53 q164 q3584 nh_X9 rfl (by decide) (by decide) (Nat.le_of_ble_eq_true rfl) dX9_twoHere_99) (fun v20 h21 => ?_)
    refine vv_iload_n (pc := 102) X (kf := 1) (i := 1) rfl 0 rfl dX9_twoHere_102 ?_
    exact vv_iretI X rfl rfl dX9_twoHere_103
  · exact vv_sub [] (by rfl) (B_X9_twoHere_65 X _)
noncomputable def b_X9_twoHere_53 (x0 : Option Nat) (s0 : Option Nat) (h : HP) : Option ((Int) × HP) :=
  b_X9_twoHere_58 x0 1 s0 h
theorem B_X9_twoHere_53 {M : hp_M} {G : va_G} {h0 : HP} (X : hp_X M G h0 "RenamedWordsModel" "twoHere" cX9_twoHere 2 (some .int) [] 3 88) (x0 : Option Nat) (s0 : Option Nat) (h : HP) : vv M G h0 2 (hp_End M G h0) jI h 53 [(0, LR x0)] [LR s0] (b_X9_twoHere_53 x0 s0 h) := by
  unfold b_X9_twoHere_53
  refine vv_iconst (pc := 53) X dX9_twoHere_53 ?_
  refine vv_goto (pc := 54) (tgt := 58) X dX9_twoHere_54 rfl ?_
  exact B_X9_twoHere_58 X _ _ _ _
noncomputable def b_X9_twoHere_14 (x0 : Option Nat) (s0 : Int) (s1 : Option Nat) (h : HP) : Option ((Int) × HP) :=
  (rcv h s1 [7]).bind fun b4 =>
  hb (f_X9_faulty b4 s0 1 h) fun v2 h3 =>
  iEQ v2 0
    ((rcv h3 x0 [7]).bind fun b8 =>
    hb (f_X9_length b8 h3) fun v6 h7 =>
    iEQ v6 2
      ((rdR h7 x0 [7] 11).bind fun v24 =>
      (rdI h7 x0 [7] 13).bind fun v25 =>
      (aldI h7 .int v24 v25).bind fun v26 =>
      (rdR h7 x0 [7] 11).bind fun v27 =>
      (rdI h7 x0 [7] 13).bind fun v28 =>
      (aldI h7 .int v27 (v28 + 1)).bind fun v29 =>
      iEQ v26 v29
        (b_X9_twoHere_53 x0 x0 h7)
        (b_X9_twoHere_58 x0 0 x0 h7))
      (b_X9_twoHere_53 x0 x0 h7))
    (b_X9_twoHere_65 h3)
theorem B_X9_twoHere_14 {M : hp_M} {G : va_G} {h0 : HP} (X : hp_X M G h0 "RenamedWordsModel" "twoHere" cX9_twoHere 2 (some .int) [] 3 88) (x0 : Option Nat) (s0 : Int) (s1 : Option Nat) (h : HP) : vv M G h0 2 (hp_End M G h0) jI h 14 [(0, LR x0)] [LI s0, LR s1] (b_X9_twoHere_14 x0 s0 s1 h) := by
  unfold b_X9_twoHere_14
  refine vv_iconst (pc := 14) X dX9_twoHere_14 ?_
  refine vv_rcv (fun b4 t9 c9 fs9 e5 g9 k9 => ?_)
  cases List.mem_singleton.mp k9
  refine vv_callI (pc := 15) (rest := []) (by rw [e5]; rfl) (fun r8 k8 e8 => zz_callV X (m_X9_faulty (hlM X) _ _ _ _ _ _ e8) g9 rfl rfl q3612 q3614 qs59 q164 q3615 nh_X9 rfl (by decide) (by decide) (Nat.le_of_ble_eq_true rfl) dX9_twoHere_15) (fun v2 h3 => ?_)
  refine vv_if_ne (pc := 18) (tgt := 65) X dX9_twoHere_18 rfl ?_ ?_
  · exact vv_sub [] (by rfl) (B_X9_twoHere_65 X _)
  · refine vv_aload_n (pc := 21) X (kf := 0) (i := 0) rfl 0 rfl dX9_twoHere_21 ?_
    refine vv_aload_n (pc := 22) X (kf := 0) (i := 0) rfl 0 rfl dX9_twoHere_22 ?_
    refine vv_rcv (fun b8 t9 c9 fs9 e9 g9 k9 => ?_)
    cases List.mem_singleton.mp k9
    refine vv_callI (pc := 23) (rest := [LR x0]) (by rw [e9]; rfl) (fun r8 k8 e8 => zz_callV X (m_X9_length (hlM X) _ _ _ _ e8) g9 rfl rfl q3606 q3608 qs58 q164 q3609 nh_X9 rfl (by decide) (by decide) (Nat.le_of_ble_eq_true rfl) dX9_twoHere_23) (fun v6 h7 => ?_)
    refine vv_iconst (pc := 26) X dX9_twoHere_26 ?_
    refine vv_icmp_ne (pc := 27) (tgt := 53) X dX9_twoHere_27 rfl ?_ ?_
    · exact B_X9_twoHere_53 X _ _ _
    · refine vv_aload_n (pc := 30) X (kf := 0) (i := 0) rfl 0 rfl dX9_twoHere_30 ?_
      refine vv_getR (pc := 31) X (fun _ z => by cases List.mem_singleton.mp z; exact fl_X9_38_7) dX9_twoHere_31 (fun v24 => ?_)
      refine vv_aload_n (pc := 34) X (kf := 0) (i := 0) rfl 0 rfl dX9_twoHere_34 ?_
      refine vv_getI (pc := 35) X (fun _ z => by cases List.mem_singleton.mp z; exact fl_X9_166_7) dX9_twoHere_35 (fun v25 => ?_)
      refine vv_iaload (pc := 38) X dX9_twoHere_38 (fun v26 => ?_)
      refine vv_aload_n (pc := 39) X (kf := 0) (i := 0) rfl 0 rfl dX9_twoHere_39 ?_
      refine vv_getR (pc := 40) X (fun _ z => by cases List.mem_singleton.mp z; exact fl_X9_38_7) dX9_twoHere_40 (fun v27 => ?_)
      refine vv_aload_n (pc := 43) X (kf := 0) (i := 0) rfl 0 rfl dX9_twoHere_43 ?_
      refine vv_getI (pc := 44) X (fun _ z => by cases List.mem_singleton.mp z; exact fl_X9_166_7) dX9_twoHere_44 (fun v28 => ?_)
      refine vv_iconst (pc := 47) X dX9_twoHere_47 ?_
      refine vv_iadd (pc := 48) X dX9_twoHere_48 ?_
      refine vv_iaload (pc := 49) X dX9_twoHere_49 (fun v29 => ?_)
      refine vv_icmp_ne (pc := 50) (tgt := 57) X dX9_twoHere_50 rfl ?_ ?_
      · refine vv_iconst (pc := 57) X dX9_twoHere_57 ?_
        exact B_X9_twoHere_58 X _ _ _ _
      · exact B_X9_twoHere_53 X _ _ _
noncomputable def f_X9_twoHere (a0 : Nat) (h : HP) : Option ((Int) × HP) :=
  (rdI h (some a0) [7] 15).bind fun v1 =>
  iEQ v1 1
    (b_X9_twoHere_14 (some a0) 0 (some a0) h)
    (b_X9_twoHere_14 (some a0) 1 (some a0) h)
theorem A_X9_twoHere {M : hp_M} {G : va_G} {h0 : HP} (X : hp_X M G h0 "RenamedWordsModel" "twoHere" cX9_twoHere 2 (some .int) [] 3 88) (a0 : Nat) (h : HP) : vv M G h0 2 (hp_End M G h0) jI h 0 [(0, LR (some a0))] [] (f_X9_twoHere a0 h) := by
  unfold f_X9_twoHere
  refine vv_aload_n (pc := 0) X (kf := 0) (i := 0) rfl 0 rfl dX9_twoHere_0 ?_
  refine vv_aload_n (pc := 1) X (kf := 0) (i := 0) rfl 0 rfl dX9_twoHere_1 ?_
  refine vv_getI (pc := 2) X (fun _ z => by cases List.mem_singleton.mp z; exact fl_X9_172_7) dX9_twoHere_2 (fun v1 => ?_)
  refine vv_iconst (pc := 5) X dX9_twoHere_5 ?_
  refine vv_icmp_eq (pc := 6) (tgt := 13) X dX9_twoHere_6 rfl ?_ ?_
  · refine vv_iconst (pc := 13) X dX9_twoHere_13 ?_
    exact B_X9_twoHere_14 X _ _ _ _
  · refine vv_iconst (pc := 9) X dX9_twoHere_9 ?_
    refine vv_goto (pc := 10) (tgt := 14) X dX9_twoHere_10 rfl ?_
    exact B_X9_twoHere_14 X _ _ _ _
theorem m_X9_twoHere {l : Launch} (hl : l.stackTraces = false) {G : va_G} (a0 : Nat) (h : HP) : ∀ r hf, f_X9_twoHere a0 h = some (r, hf) → Ct l yX9_twoHere (ws_ yX9_twoHere cX9_twoHere 2 (some .int)) 3 88 G h [.ref a0] (jI r) hf :=
  zz_ofW hl (by decide +kernel) (lv := [(0, LR (some a0))]) (by simp [lv_args, lvL, lvV, zz_rfc, zz_rfs, zz_ci, zz_cr, zz_cj, zz_cf, zz_cd]) (by simp [lg_sl, zz_rfc, zz_ci, zz_cr, zz_cj, zz_cf, zz_cd]) (fun _ X => A_X9_twoHere X a0 h)
-- X9_restHere RenamedWordsModel.restHere(I)V
noncomputable def b_X9_restHere_159 (h : HP) : Option ((Unit) × HP) :=
  some ((), h)
theorem B_X9_restHere_159 {M : hp_M} {G : va_G} {h0 : HP} (X : hp_X M G h0 "RenamedWordsModel" "restHere" cX9_restHere 2 none [] 4 119) (h : HP) : vv M G h0 2 (hp_End M G h0) jV h 159 [] [] (b_X9_restHere_159 h) := by
  unfold b_X9_restHere_159
  exact vv_vreturn X rfl rfl dX9_restHere_159
noncomputable def f_X9_restHere (a0 : Nat) (a1 : Int) (h : HP) : Option ((Unit) × HP) :=
  iIN a1
    (if a1 = 0 then
      (rdR h (some a0) [7] 24).bind fun v1 =>
      (rdI h (some a0) [7] 29).bind fun v2 =>
      (rcv h (some a0) [7]).bind fun b5 =>
      hb (f_X9_lettersHere b5 h) fun v3 h4 =>
      (astI h4 .int v1 v2 v3).bind fun h7 =>
      b_X9_restHere_159 h7
    else
    if a1 = 1 then
      (rdR h (some a0) [7] 24).bind fun v8 =>
      (rdI h (some a0) [7] 29).bind fun v9 =>
      (rcv h (some a0) [7]).bind fun b12 =>
      hb (f_X9_lettersHere b12 h) fun v10 h11 =>
      (astI h11 .int v8 v9 v10).bind fun h14 =>
      b_X9_restHere_159 h14
    else
    if a1 = 2 then
      (rdR h (some a0) [7] 24).bind fun v15 =>
      (rdI h (some a0) [7] 29).bind fun v16 =>
      (rcv h (some a0) [7]).bind fun b19 =>
      hb (f_X9_number b19 1 200 h) fun v17 h18 =>
      (astI h18 .int v15 v16 v17).bind fun h21 =>
      b_X9_restHere_159 h21
    else
    if a1 = 3 then
      (rdR h (some a0) [7] 24).bind fun v22 =>
      (rdI h (some a0) [7] 29).bind fun v23 =>
      (astI h .int v22 v23 0).bind fun h24 =>
      b_X9_restHere_159 h24
    else
    if a1 = 4 then
      (rdR h (some a0) [7] 24).bind fun v25 =>
      (rdI h (some a0) [7] 29).bind fun v26 =>
      (astI h .int v25 v26 0).bind fun h27 =>
      b_X9_restHere_159 h27
    else
    if a1 = 5 then
      (rdR h (some a0) [7] 24).bind fun v28 =>
      (rdI h (some a0) [7] 29).bind fun v29 =>
      (rcv h (some a0) [7]).bind fun b32 =>
      hb (f_X9_number b32 1 200 h) fun v30 h31 =>
      (astI h31 .int v28 v29 v30).bind fun h34 =>
      (rdR h34 (some a0) [7] 25).bind fun v35 =>
      (rdI h34 (some a0) [7] 29).bind fun v36 =>
      (rcv h34 (some a0) [7]).bind fun b39 =>
      hb (f_X9_twoHere b39 h34) fun v37 h38 =>
      (astI h38 .int v35 v36 v37).bind fun h41 =>
      b_X9_restHere_159 h41
    else
    if a1 = 6 then
      (rdR h (some a0) [7] 24).bind fun v42 =>
      (rdI h (some a0) [7] 29).bind fun v43 =>
      (rcv h (some a0) [7]).bind fun b46 =>
      hb (f_X9_number b46 0 200 h) fun v44 h45 =>
      (astI h45 .int v42 v43 v44).bind fun h48 =>
      (rdR h48 (some a0) [7] 25).bind fun v49 =>
      (rdI h48 (some a0) [7] 29).bind fun v50 =>
      (rcv h48 (some a0) [7]).bind fun b53 =>
      hb (f_X9_number b53 1 20 h48) fun v51 h52 =>
      (astI h52 .int v49 v50 v51).bind fun h55 =>
      b_X9_restHere_159 h55
    else
    (rdR h (some a0) [7] 24).bind fun v56 =>
    (rdI h (some a0) [7] 29).bind fun v57 =>
    (astI h .int v56 v57 0).bind fun h58 =>
    b_X9_restHere_159 h58)
theorem A_X9_restHere {M : hp_M} {G : va_G} {h0 : HP} (X : hp_X M G h0 "RenamedWordsModel" "restHere" cX9_restHere 2 none [] 4 119) (a0 : Nat) (a1 : Int) (h : HP) : vv M G h0 2 (hp_End M G h0) jV h 0 [(0, LR (some a0)), (1, LI a1)] [] (f_X9_restHere a0 a1 h) := by
  unfold f_X9_restHere
  refine vv_iload_n (pc := 0) X (kf := 1) (i := 1) rfl 1 rfl dX9_restHere_0 ?_
  refine vv_iIN (fun hr => ?_)
  refine vv_if (fun e0 => ?_) (fun e0 => ?_)
  · refine vv_tsw (pc := 1) (off := 43) (tgt := 44) X dX9_restHere_1 hr (by omega) (by omega) (by rw [e0]; rfl) rfl ?_
    refine vv_aload_n (pc := 44) X (kf := 0) (i := 0) rfl 0 rfl dX9_restHere_44 ?_
    refine vv_getR (pc := 45) X (fun _ z => by cases List.mem_singleton.mp z; exact fl_X9_51_7) dX9_restHere_45 (fun v1 => ?_)
    refine vv_aload_n (pc := 48) X (kf := 0) (i := 0) rfl 0 rfl dX9_restHere_48 ?_
    refine vv_getI (pc := 49) X (fun _ z => by cases List.mem_singleton.mp z; exact fl_X9_286_7) dX9_restHere_49 (fun v2 => ?_)
    refine vv_aload_n (pc := 52) X (kf := 0) (i := 0) rfl 0 rfl dX9_restHere_52 ?_
    refine vv_rcv (fun b5 t9 c9 fs9 e6 g9 k9 => ?_)
    cases List.mem_singleton.mp k9
    refine vv_callI (pc := 53) (rest := [LI v2, LR v1]) (by rw [e6]; rfl) (fun r8 k8 e8 => zz_callV X (m_X9_lettersHere (hlM X) _ _ _ _ e8) g9 rfl rfl q3702 q3704 qs77 q164 q3705 nh_X9 rfl (by decide) (by decide) (Nat.le_of_ble_eq_true rfl) dX9_restHere_53) (fun v3 h4 => ?_)
    refine vv_iastore (pc := 56) X dX9_restHere_56 (fun h7 => ?_)
    refine vv_goto (pc := 57) (tgt := 159) X dX9_restHere_57 rfl ?_
    exact vv_sub [] (by rfl) (B_X9_restHere_159 X _)
  refine vv_if (fun e1 => ?_) (fun e1 => ?_)
  · refine vv_tsw (pc := 1) (off := 43) (tgt := 44) X dX9_restHere_1 hr (by omega) (by omega) (by rw [e1]; rfl) rfl ?_
    refine vv_aload_n (pc := 44) X (kf := 0) (i := 0) rfl 0 rfl dX9_restHere_44 ?_
    refine vv_getR (pc := 45) X (fun _ z => by cases List.mem_singleton.mp z; exact fl_X9_51_7) dX9_restHere_45 (fun v8 => ?_)
    refine vv_aload_n (pc := 48) X (kf := 0) (i := 0) rfl 0 rfl dX9_restHere_48 ?_
    refine vv_getI (pc := 49) X (fun _ z => by cases List.mem_singleton.mp z; exact fl_X9_286_7) dX9_restHere_49 (fun v9 => ?_)
    refine vv_aload_n (pc := 52) X (kf := 0) (i := 0) rfl 0 rfl dX9_restHere_52 ?_
    refine vv_rcv (fun b12 t9 c9 fs9 e13 g9 k9 => ?_)
    cases List.mem_singleton.mp k9
    refine vv_callI (pc := 53) (rest := [LI v9, LR v8]) (by rw [e13]; rfl) (fun r8 k8 e8 => zz_callV X (m_X9_lettersHere (hlM X) _ _ _ _ e8) g9 rfl rfl q3702 q3704 qs77 q164 q3705 nh_X9 rfl (by decide) (by decide) (Nat.le_of_ble_eq_true rfl) dX9_restHere_53) (fun v10 h11 => ?_)
    refine vv_iastore (pc := 56) X dX9_restHere_56 (fun h14 => ?_)
    refine vv_goto (pc := 57) (tgt := 159) X dX9_restHere_57 rfl ?_
    exact vv_sub [] (by rfl) (B_X9_restHere_159 X _)
  refine vv_if (fun e2 => ?_) (fun e2 => ?_)
  · refine vv_tsw (pc := 1) (off := 59) (tgt := 60) X dX9_restHere_1 hr (by omega) (by omega) (by rw [e2]; rfl) rfl ?_
    refine vv_aload_n (pc := 60) X (kf := 0) (i := 0) rfl 0 rfl dX9_restHere_60 ?_
    refine vv_getR (pc := 61) X (fun _ z => by cases List.mem_singleton.mp z; exact fl_X9_51_7) dX9_restHere_61 (fun v15 => ?_)
    refine vv_aload_n (pc := 64) X (kf := 0) (i := 0) rfl 0 rfl dX9_restHere_64 ?_
    refine vv_getI (pc := 65) X (fun _ z => by cases List.mem_singleton.mp z; exact fl_X9_286_7) dX9_restHere_65 (fun v16 => ?_)
    refine vv_aload_n (pc := 68) X (kf := 0) (i := 0) rfl 0 rfl dX9_restHere_68 ?_
    refine vv_iconst (pc := 69) X dX9_restHere_69 ?_
    refine vv_sipush (pc := 70) X (by decide) dX9_restHere_70 ?_
    refine vv_rcv (fun b19 t9 c9 fs9 e20 g9 k9 => ?_)
    cases List.mem_singleton.mp k9
    refine vv_callI (pc := 73) (rest := [LI v16, LR v15]) (by rw [e20]; rfl) (fun r8 k8 e8 => zz_callV X (m_X9_number (hlM X) _ _ _ _ _ _ e8) g9 rfl rfl q3650 q3652 qs68 q164 q3653 nh_X9 rfl (by decide) (by decide) (Nat.le_of_ble_eq_true rfl) dX9_restHere_73) (fun v17 h18 => ?_)
    refine vv_iastore (pc := 76) X dX9_restHere_76 (fun h21 => ?_)
    refine vv_goto (pc := 77) (tgt := 159) X dX9_restHere_77 rfl ?_
    exact vv_sub [] (by rfl) (B_X9_restHere_159 X _)
  refine vv_if (fun e3 => ?_) (fun e3 => ?_)
  · refine vv_tsw (pc := 1) (off := 148) (tgt := 149) X dX9_restHere_1 hr (by omega) (by omega) (by rw [e3]; rfl) rfl ?_
    refine vv_aload_n (pc := 149) X (kf := 0) (i := 0) rfl 0 rfl dX9_restHere_149 ?_
    refine vv_getR (pc := 150) X (fun _ z => by cases List.mem_singleton.mp z; exact fl_X9_51_7) dX9_restHere_150 (fun v22 => ?_)
    refine vv_aload_n (pc := 153) X (kf := 0) (i := 0) rfl 0 rfl dX9_restHere_153 ?_
    refine vv_getI (pc := 154) X (fun _ z => by cases List.mem_singleton.mp z; exact fl_X9_286_7) dX9_restHere_154 (fun v23 => ?_)
    refine vv_iconst (pc := 157) X dX9_restHere_157 ?_
    refine vv_iastore (pc := 158) X dX9_restHere_158 (fun h24 => ?_)
    exact vv_sub [] (by rfl) (B_X9_restHere_159 X _)
  refine vv_if (fun e4 => ?_) (fun e4 => ?_)
  · refine vv_tsw (pc := 1) (off := 148) (tgt := 149) X dX9_restHere_1 hr (by omega) (by omega) (by rw [e4]; rfl) rfl ?_
    refine vv_aload_n (pc := 149) X (kf := 0) (i := 0) rfl 0 rfl dX9_restHere_149 ?_
    refine vv_getR (pc := 150) X (fun _ z => by cases List.mem_singleton.mp z; exact fl_X9_51_7) dX9_restHere_150 (fun v25 => ?_)
    refine vv_aload_n (pc := 153) X (kf := 0) (i := 0) rfl 0 rfl dX9_restHere_153 ?_
    refine vv_getI (pc := 154) X (fun _ z => by cases List.mem_singleton.mp z; exact fl_X9_286_7) dX9_restHere_154 (fun v26 => ?_)
    refine vv_iconst (pc := 157) X dX9_restHere_157 ?_
    refine vv_iastore (pc := 158) X dX9_restHere_158 (fun h27 => ?_)
    exact vv_sub [] (by rfl) (B_X9_restHere_159 X _)
  refine vv_if (fun e5 => ?_) (fun e5 => ?_)
  · refine vv_tsw (pc := 1) (off := 79) (tgt := 80) X dX9_restHere_1 hr (by omega) (by omega) (by rw [e5]; rfl) rfl ?_
    refine vv_aload_n (pc := 80) X (kf := 0) (i := 0) rfl 0 rfl dX9_restHere_80 ?_
    refine vv_getR (pc := 81) X (fun _ z => by cases List.mem_singleton.mp z; exact fl_X9_51_7) dX9_restHere_81 (fun v28 => ?_)
    refine vv_aload_n (pc := 84) X (kf := 0) (i := 0) rfl 0 rfl dX9_restHere_84 ?_
    refine vv_getI (pc := 85) X (fun _ z => by cases List.mem_singleton.mp z; exact fl_X9_286_7) dX9_restHere_85 (fun v29 => ?_)
    refine vv_aload_n (pc := 88) X (kf := 0) (i := 0) rfl 0 rfl dX9_restHere_88 ?_
    refine vv_iconst (pc := 89) X dX9_restHere_89 ?_
    refine vv_sipush (pc := 90) X (by decide) dX9_restHere_90 ?_
    refine vv_rcv (fun b32 t9 c9 fs9 e33 g9 k9 => ?_)
    cases List.mem_singleton.mp k9
    refine vv_callI (pc := 93) (rest := [LI v29, LR v28]) (by rw [e33]; rfl) (fun r8 k8 e8 => zz_callV X (m_X9_number (hlM X) _ _ _ _ _ _ e8) g9 rfl rfl q3650 q3652 qs68 q164 q3653 nh_X9 rfl (by decide) (by decide) (Nat.le_of_ble_eq_true rfl) dX9_restHere_93) (fun v30 h31 => ?_)
    refine vv_iastore (pc := 96) X dX9_restHere_96 (fun h34 => ?_)
    refine vv_aload_n (pc := 97) X (kf := 0) (i := 0) rfl 0 rfl dX9_restHere_97 ?_
    refine vv_getR (pc := 98) X (fun _ z => by cases List.mem_singleton.mp z; exact fl_X9_54_7) dX9_restHere_98 (fun v35 => ?_)
    refine vv_aload_n (pc := 101) X (kf := 0) (i := 0) rfl 0 rfl dX9_restHere_101 ?_
    refine vv_getI (pc := 102) X (fun _ z => by cases List.mem_singleton.mp z; exact fl_X9_286_7) dX9_restHere_102 (fun v36 => ?_)
    refine vv_aload_n (pc := 105) X (kf := 0) (i := 0) rfl 0 rfl dX9_restHere_105 ?_
    refine vv_rcv (fun b39 t9 c9 fs9 e40 g9 k9 => ?_)
    cases List.mem_singleton.mp k9
    refine vv_callI (pc := 106) (rest := [LI v36, LR v35]) (by rw [e40]; rfl) (fun r8 k8 e8 => zz_callV X (m_X9_twoHere (hlM X) _ _ _ _ e8) g9 rfl rfl q3706 q3708 qs78 q164 q3709 nh_X9 rfl (by decide) (by decide) (Nat.le_of_ble_eq_true rfl) dX9_restHere_106) (fun v37 h38 => ?_)
    refine vv_iastore (pc := 109) X dX9_restHere_109 (fun h41 => ?_)
    refine vv_goto (pc := 110) (tgt := 159) X dX9_restHere_110 rfl ?_
    exact vv_sub [] (by rfl) (B_X9_restHere_159 X _)
  refine vv_if (fun e6 => ?_) (fun e6 => ?_)
  · refine vv_tsw (pc := 1) (off := 112) (tgt := 113) X dX9_restHere_1 hr (by omega) (by omega) (by rw [e6]; rfl) rfl ?_
    refine vv_aload_n (pc := 113) X (kf := 0) (i := 0) rfl 0 rfl dX9_restHere_113 ?_
    refine vv_getR (pc := 114) X (fun _ z => by cases List.mem_singleton.mp z; exact fl_X9_51_7) dX9_restHere_114 (fun v42 => ?_)
    refine vv_aload_n (pc := 117) X (kf := 0) (i := 0) rfl 0 rfl dX9_restHere_117 ?_
    refine vv_getI (pc := 118) X (fun _ z => by cases List.mem_singleton.mp z; exact fl_X9_286_7) dX9_restHere_118 (fun v43 => ?_)
    refine vv_aload_n (pc := 121) X (kf := 0) (i := 0) rfl 0 rfl dX9_restHere_121 ?_
    refine vv_iconst (pc := 122) X dX9_restHere_122 ?_
    refine vv_sipush (pc := 123) X (by decide) dX9_restHere_123 ?_
    refine vv_rcv (fun b46 t9 c9 fs9 e47 g9 k9 => ?_)
    cases List.mem_singleton.mp k9
    refine vv_callI (pc := 126) (rest := [LI v43, LR v42]) (by rw [e47]; rfl) (fun r8 k8 e8 => zz_callV X (m_X9_number (hlM X) _ _ _ _ _ _ e8) g9 rfl rfl q3650 q3652 qs68 q164 q3653 nh_X9 rfl (by decide) (by decide) (Nat.le_of_ble_eq_true rfl) dX9_restHere_126) (fun v44 h45 => ?_)
    refine vv_iastore (pc := 129) X dX9_restHere_129 (fun h48 => ?_)
    refine vv_aload_n (pc := 130) X (kf := 0) (i := 0) rfl 0 rfl dX9_restHere_130 ?_
    refine vv_getR (pc := 131) X (fun _ z => by cases List.mem_singleton.mp z; exact fl_X9_54_7) dX9_restHere_131 (fun v49 => ?_)
    refine vv_aload_n (pc := 134) X (kf := 0) (i := 0) rfl 0 rfl dX9_restHere_134 ?_
    refine vv_getI (pc := 135) X (fun _ z => by cases List.mem_singleton.mp z; exact fl_X9_286_7) dX9_restHere_135 (fun v50 => ?_)
    refine vv_aload_n (pc := 138) X (kf := 0) (i := 0) rfl 0 rfl dX9_restHere_138 ?_
    refine vv_iconst (pc := 139) X dX9_restHere_139 ?_
    refine vv_bipush (pc := 140) X (by decide) dX9_restHere_140 ?_
    refine vv_rcv (fun b53 t9 c9 fs9 e54 g9 k9 => ?_)
    cases List.mem_singleton.mp k9
    refine vv_callI (pc := 142) (rest := [LI v50, LR v49]) (by rw [e54]; rfl) (fun r8 k8 e8 => zz_callV X (m_X9_number (hlM X) _ _ _ _ _ _ e8) g9 rfl rfl q3650 q3652 qs68 q164 q3653 nh_X9 rfl (by decide) (by decide) (Nat.le_of_ble_eq_true rfl) dX9_restHere_142) (fun v51 h52 => ?_)
    refine vv_iastore (pc := 145) X dX9_restHere_145 (fun h55 => ?_)
    refine vv_goto (pc := 146) (tgt := 159) X dX9_restHere_146 rfl ?_
    exact vv_sub [] (by rfl) (B_X9_restHere_159 X _)
  refine vv_tswD (pc := 1) (tgt := 149) X dX9_restHere_1 hr (by omega) rfl ?_
  refine vv_aload_n (pc := 149) X (kf := 0) (i := 0) rfl 0 rfl dX9_restHere_149 ?_
  refine vv_getR (pc := 150) X (fun _ z => by cases List.mem_singleton.mp z; exact fl_X9_51_7) dX9_restHere_150 (fun v56 => ?_)
  refine vv_aload_n (pc := 153) X (kf := 0) (i := 0) rfl 0 rfl dX9_restHere_153 ?_
  refine vv_getI (pc := 154) X (fun _ z => by cases List.mem_singleton.mp z; exact fl_X9_286_7) dX9_restHere_154 (fun v57 => ?_)
  refine vv_iconst (pc := 157) X dX9_restHere_157 ?_
  refine vv_iastore (pc := 158) X dX9_restHere_158 (fun h58 => ?_)
  exact vv_sub [] (by rfl) (B_X9_restHere_159 X _)
theorem m_X9_restHere {l : Launch} (hl : l.stackTraces = false) {G : va_G} (a0 : Nat) (a1 : Int) (h : HP) : ∀ r hf, f_X9_restHere a0 a1 h = some (r, hf) → Ct l yX9_restHere (ws_ yX9_restHere cX9_restHere 2 none) 4 119 G h [.ref a0, .int (iI a1)] (jV r) hf :=
  zz_ofW hl (by decide +kernel) (lv := [(0, LR (some a0)), (1, LI a1)]) (by simp [lv_args, lvL, lvV, zz_rfc, zz_rfs, zz_ci, zz_cr, zz_cj, zz_cf, zz_cd]) (by simp [lg_sl, zz_rfc, zz_ci, zz_cr, zz_cj, zz_cf, zz_cd]) (fun _ X => A_X9_restHere X a0 a1 h)
-- X9_takesSign RenamedWordsModel.takesSign(I)V
noncomputable def b_X9_takesSign_25 (h : HP) : Option ((Unit) × HP) :=
  some ((), h)
theorem B_X9_takesSign_25 {M : hp_M} {G : va_G} {h0 : HP} (X : hp_X M G h0 "RenamedWordsModel" "takesSign" cX9_takesSign 2 none [] 3 88) (h : HP) : vv M G h0 2 (hp_End M G h0) jV h 25 [] [] (b_X9_takesSign_25 h) := by
  unfold b_X9_takesSign_25
  exact vv_vreturn X rfl rfl dX9_takesSign_25
noncomputable def b_X9_takesSign_14 (x0 : Option Nat) (s0 : Int) (s1 : Option Nat) (h : HP) : Option ((Unit) × HP) :=
  (rcv h s1 [7]).bind fun b7 =>
  hb (f_X9_faulty b7 s0 1 h) fun v5 h6 =>
  iEQ v5 0
    ((rcv h6 x0 [7]).bind fun b11 =>
    hb (f_X9_advance b11 h6) fun _ h10 =>
    b_X9_takesSign_25 h10)
    (b_X9_takesSign_25 h6)
theorem B_X9_takesSign_14 {M : hp_M} {G : va_G} {h0 : HP} (X : hp_X M G h0 "RenamedWordsModel" "takesSign" cX9_takesSign 2 none [] 3 88) (x0 : Option Nat) (s0 : Int) (s1 : Option Nat) (h : HP) : vv M G h0 2 (hp_End M G h0) jV h 14 [(0, LR x0)] [LI s0, LR s1] (b_X9_takesSign_14 x0 s0 s1 h) := by
  unfold b_X9_takesSign_14
  refine vv_iconst (pc := 14) X dX9_takesSign_14 ?_
  refine vv_rcv (fun b7 t9 c9 fs9 e8 g9 k9 => ?_)
  cases List.mem_singleton.mp k9
  refine vv_callI (pc := 15) (rest := []) (by rw [e8]; rfl) (fun r8 k8 e8 => zz_callV X (m_X9_faulty (hlM X) _ _ _ _ _ _ e8) g9 rfl rfl q3612 q3614 qs59 q164 q3615 nh_X9 rfl (by decide) (by decide) (Nat.le_of_ble_eq_true rfl) dX9_takesSign_15) (fun v5 h6 => ?_)
  refine vv_if_ne (pc := 18) (tgt := 25) X dX9_takesSign_18 rfl ?_ ?_
  · exact vv_sub [] (by rfl) (B_X9_takesSign_25 X _)
  · refine vv_aload_n (pc := 21) X (kf := 0) (i := 0) rfl 0 rfl dX9_takesSign_21 ?_
    refine vv_rcv (fun b11 t9 c9 fs9 e12 g9 k9 => ?_)
    cases List.mem_singleton.mp k9
    refine vv_callV (pc := 22) (rest := []) (by rw [e12]; rfl) (fun r8 k8 e8 => zz_callV X (m_X9_advance (hlM X) _ _ _ _ e8) g9 rfl rfl q3581 q3583 qs53 q164 q3584 nh_X9 rfl (by decide) (by decide) (Nat.le_of_ble_eq_true rfl) dX9_takesSign_22) (fun v9 h10 => ?_)
    exact vv_sub [] (by rfl) (B_X9_takesSign_25 X _)
noncomputable def f_X9_takesSign (a0 : Nat) (a1 : Int) (h : HP) : Option ((Unit) × HP) :=
  (rcv h (some a0) [7]).bind fun b3 =>
  hb (f_X9_isSign b3 a1 h) fun v1 h2 =>
  iEQ v1 0
    (b_X9_takesSign_14 (some a0) 1 (some a0) h2)
    (b_X9_takesSign_14 (some a0) 0 (some a0) h2)
theorem A_X9_takesSign {M : hp_M} {G : va_G} {h0 : HP} (X : hp_X M G h0 "RenamedWordsModel" "takesSign" cX9_takesSign 2 none [] 3 88) (a0 : Nat) (a1 : Int) (h : HP) : vv M G h0 2 (hp_End M G h0) jV h 0 [(0, LR (some a0)), (1, LI a1)] [] (f_X9_takesSign a0 a1 h) := by
  unfold f_X9_takesSign
  refine vv_aload_n (pc := 0) X (kf := 0) (i := 0) rfl 0 rfl dX9_takesSign_0 ?_
  refine vv_aload_n (pc := 1) X (kf := 0) (i := 0) rfl 0 rfl dX9_takesSign_1 ?_
  refine vv_iload_n (pc := 2) X (kf := 1) (i := 1) rfl 1 rfl dX9_takesSign_2 ?_
  refine vv_rcv (fun b3 t9 c9 fs9 e4 g9 k9 => ?_)
  cases List.mem_singleton.mp k9
  refine vv_callI (pc := 3) (rest := [LR (some a0)]) (by rw [e4]; rfl) (fun r8 k8 e8 => zz_callV X (m_X9_isSign (hlM X) _ _ _ _ _ e8) g9 rfl rfl q3620 q3622 qs61 q164 q3623 nh_X9 rfl (by decide) (by decide) (Nat.le_of_ble_eq_true rfl) dX9_takesSign_3) (fun v1 h2 => ?_)
  refine vv_if_ne (pc := 6) (tgt := 13) X dX9_takesSign_6 rfl ?_ ?_
  · refine vv_iconst (pc := 13) X dX9_takesSign_13 ?_
    exact vv_sub [0] (by rfl) (B_X9_takesSign_14 X _ _ _ _)
  · refine vv_iconst (pc := 9) X dX9_takesSign_9 ?_
    refine vv_goto (pc := 10) (tgt := 14) X dX9_takesSign_10 rfl ?_
    exact vv_sub [0] (by rfl) (B_X9_takesSign_14 X _ _ _ _)
theorem m_X9_takesSign {l : Launch} (hl : l.stackTraces = false) {G : va_G} (a0 : Nat) (a1 : Int) (h : HP) : ∀ r hf, f_X9_takesSign a0 a1 h = some (r, hf) → Ct l yX9_takesSign (ws_ yX9_takesSign cX9_takesSign 2 none) 3 88 G h [.ref a0, .int (iI a1)] (jV r) hf :=
  zz_ofW hl (by decide +kernel) (lv := [(0, LR (some a0)), (1, LI a1)]) (by simp [lv_args, lvL, lvV, zz_rfc, zz_rfs, zz_ci, zz_cr, zz_cj, zz_cf, zz_cd]) (by simp [lg_sl, zz_rfc, zz_ci, zz_cr, zz_cj, zz_cf, zz_cd]) (fun _ X => A_X9_takesSign X a0 a1 h)
