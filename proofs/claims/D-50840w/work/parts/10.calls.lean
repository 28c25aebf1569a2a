/-! STAGE 0c: calls, entry, ends. -/
set_option maxRecDepth 100000
theorem va_cat1 (r : Option Nat) : (va_rf r).category = 1 := by cases r <;> rfl
theorem zz_cat (v : Value) : v.category ≤ 2 := by cases v <;> exact Nat.le_of_ble_eq_true rfl
theorem zz_cats (l : List Value) : (l.map fun v => v.category).sum ≤ 2 * l.length := by
  induction l with
  | nil => exact Nat.le_refl _
  | cons a l ih =>
    have := zz_cat a
    simp only [List.map_cons, List.sum_cons, List.length_cons]
    omega
theorem zz_room {rest : List Value} {m : MethodId} {pc : Nat} {ls : Array Slot} {st : List Value} (h : rest.length ≤ 8) : 2 * (F0 m pc ls st).monitorRoom + (rest.map fun v => v.category).sum ≤ 16 := by
  have := zz_cats rest
  have h0 : (F0 m pc ls st).monitorRoom = 0 := rfl
  omega
/-- a call's run: from the frame at pc with the stack st0 to what o1 says -/
def zz_run (M : hp_M) (G : va_G) (h0 : HP) (nL : Nat) (h : HP) (pc pc2 : Nat) (st0 rest : List Value) (o1 : hp_O) (h1 : HP) : Prop :=
  ∀ (H : Heap) (locs : List Loc) (ls : Array Slot) (cells slots : Nat) (Qf : State → Prop), hp_I M G h0 h H locs cells slots → ls.size = nL →
    (match o1 with
     | .inr v => ∀ (H1 : Heap) (locs1 : List Loc) (c1 s1 : Nat), hp_I M G h0 h1 H1 locs1 c1 s1 → z_W M H1 locs1 c1 s1 Qf (F0 (z_m M) pc2 ls (v.toList ++ rest))
     | .inl q => ∀ (H1 : Heap) (locs1 : List Loc) (c1 s1 : Nat), hp_I M G h0 h1 H1 locs1 c1 s1 → z_X M H1 locs1 c1 s1 Qf (F0 (z_m M) pc ls rest) q) →
    z_W M H locs cells slots Qf (F0 (z_m M) pc ls st0)
theorem zz_joinI {M : hp_M} {G : va_G} {h0 h h1 : HP} {H : Heap} {locs : List Loc} {cells slots : Nat} (I : hp_I M G h0 h H locs cells slots) {T : State} (hT : T.heap = H) {vm₁ : Vm} {B : Pt} (hal : (z_s M).vm.Alike B.U.vm) (hB : zz_B G h h1 ⟨T.setVm vm₁, locs, cells, slots⟩ B) : hp_I M G h0 h1 B.U.heap B.locs B.cells B.slots := by
  obtain ⟨st, t, L, e1, e2, e3, r1, r2, r3, r4, r6, l1, l2, l3, l4⟩ := hB
  dsimp only [Pt.U, Pt.locs, Pt.cells, Pt.slots] at *
  have e3 : st.heap = H := by rw [e3]; exact hT
  obtain ⟨f1, f2⟩ := r2
  rw [e3] at f1 f2
  have hsub := I.sub
  refine ⟨?_, ⟨?_, fun q g1 g2 => ?_, fun q hq => ?_⟩, fun a t9 c9 h7 h8 => hsub a (r3 a t9 c9 h7 h8), ?_, ?_, r6.trans I.2.2.2.2.2.1, I.2.2.2.2.2.2.1, I.2.2.2.2.2.2.2.trans r4⟩
  · rw [e1]; rw [e2] at hal; exact r1.moved hal.symm
  · rw [e1]; exact Nat.le_trans I.2.1.1 f1
  · rw [e1, f2 q (Nat.lt_of_lt_of_le g1 I.2.1.1) (fun z => g2 (hsub q z))]
    exact I.2.1.2.1 q g1 g2
  · rw [l1] at hq
    rcases List.mem_append.mp hq with h | h
    · exact I.2.1.2.2 q h
    · exact hsub _ (l2 q h)
  · rw [l3]; have := I.2.2.2.1; have := r4.1; omega
  · rw [l4]; have := I.2.2.2.2.1; have := r4.2.1; omega
/-- behind any of the kit's calls -/
theorem zz_after {M : hp_M} {G : va_G} {h0 h h1 : HP} {nL pc len : Nat} {st0 rest : List Value} {o1 : hp_O} {a : Array Value}
    (hcall : ∀ (H : Heap) (locs : List Loc) (ls : Array Slot) (cells slots : Nat), hp_I M G h0 h H locs cells slots → ls.size = nL → ∀ T : State, T.heap = H → Stand (z_p M) (z_l M) (z_e M) (z_R M) (z_s M) (z_m M) (z_a M) (z_b M) (z_t M) (z_c M) T locs cells slots →
      (∃ (v : Option Value) (vm₁ : Vm) (B : Pt), (z_s M).WarmedH vm₁ ∧ Stand (z_p M) (z_l M) (z_e M) (z_R M) (z_s M) (z_m M) (z_a M) (z_b M) (z_t M) (z_c M) B.U B.locs B.cells B.slots ∧ (o1 = .inr v ∧ zz_B G h h1 ⟨T.setVm vm₁, locs, cells, slots⟩ B) ∧
        ∀ target, Steps (z_p M).tables (z_e M) (z_b M) (B.U.setTop { F0 (z_m M) pc ls st0 with pc := pc + len, stack := v.toList ++ rest }) target → Steps (z_p M).tables (z_e M) (z_b M) (T.setTop (F0 (z_m M) pc ls st0)) target) ∨
      (∃ (q : Addr) (vm₁ : Vm) (B : Pt), (z_s M).WarmedH vm₁ ∧ Stand (z_p M) (z_l M) (z_e M) (z_R M) (z_s M) (z_m M) (z_a M) (z_b M) (z_t M) (z_c M) B.U B.locs B.cells B.slots ∧ (o1 = .inl q ∧ zz_B G h h1 ⟨T.setVm vm₁, locs, cells, slots⟩ B) ∧
        Steps (z_p M).tables (z_e M) (z_b M) (T.setTop (F0 (z_m M) pc ls st0)) ((B.U.setTop { F0 (z_m M) pc ls st0 with stack := rest }).pushFrame (.throwing q)))) :
    zz_run M G h0 nL h pc (pc + len) st0 rest o1 h1 := by
  intro H locs ls cells slots Qf I hsz hk T hT X
  rcases hcall H locs ls cells slots I hsz T hT X with ⟨v, vm₁, B, hW, X', ⟨ho, hB⟩, st⟩ | ⟨q, vm₁, B, hW, X', ⟨ho, hB⟩, st⟩
  · subst ho
    obtain ⟨t, a1, b1⟩ := hk _ _ _ _ (zz_joinI I hT X'.warmed.alike hB) B.U rfl X'
    exact ⟨t, st t a1, b1⟩
  · subst ho
    obtain ⟨t, a1, b1⟩ := hk _ _ _ _ (zz_joinI I hT X'.warmed.alike hB) B.U rfl X'
    exact ⟨t, st.trans a1, b1⟩
/-- the word that says how many parameters -/
def zz_par (d : String) (n : Nat) : Prop := (parseMethodDescriptor d).map (fun d => d.parameters.length) = some n
theorem zz_par.len {d : String} {n : Nat} (h : zz_par d n) : ∀ sig, parseMethodDescriptor d = some sig → n = sig.parameters.length := by
  intro sig hs
  unfold zz_par at h
  rw [hs] at h
  exact (Option.some.inj h).symm
theorem zz_codeK {s : State} {y : MethodName} {bytes : ByteArray} {maxL : Nat} {ret : Option FieldType} (hw : (Cond.code y bytes maxL ret) ∈ lw_all) {args : Array Value} (hts : ∀ w ∈ lw_all, w.before args s = true) :
    ∀ (a' : Array Value) (U : State), s.WarmedH U.vm → ∀ mk, U.methodNamed? y = some mk → ∃ (methY : Method) (cY : Code), U.vm.method? mk = some methY ∧ methY.code = some cY ∧ cY.maxLocals = maxL := by
  intro a' U hW mk hn
  have h2 : (Cond.code y bytes maxL ret).before a' U = true := word_at hW ((lw_self _ hw).2) (hts _ hw)
  obtain ⟨methY, cY, hmY, hcY, -, hlY, -⟩ := Cond.code_spec hn h2
  exact ⟨methY, cY, hmY, hcY, hlY⟩
theorem zz_codeKW {s : State} {y : MethodName} {bytes : ByteArray} {maxL : Nat} {ret : Option FieldType} {hh : List (Nat × Nat × Nat × Nat)} (hw : (Cond.codeWith y bytes maxL ret hh) ∈ lw_all) {args : Array Value} (hts : ∀ w ∈ lw_all, w.before args s = true) :
    ∀ (a' : Array Value) (U : State), s.WarmedH U.vm → ∀ mk, U.methodNamed? y = some mk → ∃ (methY : Method) (cY : Code), U.vm.method? mk = some methY ∧ methY.code = some cY ∧ cY.maxLocals = maxL := by
  intro a' U hW mk hn
  have h2 : (Cond.codeWith y bytes maxL ret hh).before a' U = true := word_at hW ((lw_self _ hw).2) (hts _ hw)
  obtain ⟨m9, methY, cY, hn9, hmY, hcY, -, hlY, -⟩ := Cond.codeWith_spec h2
  cases Option.some.inj (hn9.symm.trans hn)
  exact ⟨methY, cY, hmY, hcY, hlY⟩
theorem zz_wsK {s : State} {args : Array Value} (hts : ∀ w ∈ lw_all, w.before args s = true) {w0 : Cond} (hw : w0 ∈ lw_all) : ∀ w ∈ w0 :: lw_all, ∀ (a' : Array Value) (U : State), s.WarmedH U.vm → w.before a' U = true := by
  intro w h a' U hW
  have hm : w ∈ lw_all := by
    rcases List.mem_cons.mp h with e | h
    · rw [e]; exact hw
    · exact h
  exact word_at hW ((lw_self _ hm).2) (hts _ hm)
theorem zz_iniK {s : State} {args : Array Value} (hts : ∀ w ∈ lw_all, w.before args s = true) {C : String} (hw : Cond.initialized C ∈ lw_all) : ∀ (a' : Array Value) (U : State), s.WarmedH U.vm → (Cond.initialized C).before a' U = true := fun _ _ hW => word_at hW ((lw_self _ hw).2) (hts _ hw)
section CALLS
variable {M : hp_M} {G : va_G} {h0 h h1 : HP} {own nm : String} {cc : ByteArray} {nL F L : Nat} {ret : Option FieldType} {tb : List ExceptionTableEntry}
variable {y : MethodName} {bytes : ByteArray} {maxL F1 L1 pc index : Nat} {ry : Option FieldType} {As rest : List Value} {o1 : hp_O}
theorem zz_pre (X : hp_X M G h0 own nm cc nL ret tb F L) {H : Heap} {locs : List Loc} {cells slots : Nat} (I : hp_I M G h0 h H locs cells slots) {T : State} (hT : T.heap = H) (vm₁ : Vm) (hW : (z_s M).WarmedH vm₁) :
    cells + (1200144 - hp_k h) ≤ (z_R M).cells ∧ slots + (5495482 - hp_s h) ≤ (z_R M).slots ∧ hp_Pc G h As As.toArray (T.setVm vm₁) := by
  have hR := X.2.2.2.2.2.2.2.1
  refine ⟨?_, ?_, rfl, ?_, ?_⟩
  · rw [hR]; show cells + (1200144 - hp_k h) ≤ 1200144 - hp_k h0; have := I.2.2.2.1; have h9 := I.2.2.2.2.2.2.2; unfold hp_lim at h9; omega
  · rw [hR]; show slots + (5495482 - hp_s h) ≤ 5495482 - hp_s h0; have := I.2.2.2.2.1; have h9 := I.2.2.2.2.2.2.2; unfold hp_lim at h9; omega
  · rw [I.2.2.2.2.2.1]; exact hp_K.warm hW X.2.1
  · show hp_R G (T.setVm vm₁) h T.heap
    rw [hT]; exact I.1.moved hW.alike
/-- the receiver -/
theorem zz_recv (X : hp_X M G h0 own nm cc nL ret tb F L) {H : Heap} {locs : List Loc} {cells slots : Nat} (I : hp_I M G h0 h H locs cells slots) {b t ci : Nat} {fs : List hp_V} (hb : h.1 b = some (t, .inl (ci, fs))) {q : vw_C} (hci : hp_cl[ci]? = some q) : ∃ cell : Cell, H[b]? = some cell ∧ cell.vm.isStatics = false ∧ (z_s M).vm.findClass q.1 = some cell.cls ∧ ∃ kB : Class, (z_s M).vm.classes[cell.cls]? = some kB := by
  obtain ⟨⟨r, h1, cell, g1, g2, g3, -⟩, -⟩ := I.1.2.1 b t _ hb
  cases Option.some.inj (h1.symm.trans hci)
  obtain ⟨hf, kC, hk, -⟩ := (X.2.1.1.1 ci q hci).2
  exact ⟨cell, g1, by rw [g3]; rfl, by rw [g2]; exact hf, kC, by rw [g2]; exact hk⟩
theorem zz_F (X : hp_X M G h0 own nm cc nL ret tb F L) (hF : F1 + 1 ≤ F) : F1 + 1 ≤ (z_R M).frames := by rw [X.2.2.2.2.2.2.2.1]; exact hF
theorem zz_L (X : hp_X M G h0 own nm cc nL ret tb F L) {n : Nat} (hL : n ≤ L) : n ≤ (z_R M).locals := by rw [X.2.2.2.2.2.2.2.1]; exact hL
theorem zz_callV (X : hp_X M G h0 own nm cc nL ret tb F L) {b t ci : Nat} {fs : List hp_V} {q : vw_C} (hM : Ct (z_l M) y (ws_ y bytes maxL ry) F1 L1 G h (.ref b :: As) o1 h1) (hb : h.1 b = some (t, .inl (ci, fs))) (hci : hp_cl[ci]? = some q) (hq : q.1 = y.cls)
    (q1 : Cond.methodLink own index y ∈ lw_all) (q2 : Cond.instanceMethod y ∈ lw_all) (q3 : Cond.selects y.cls y y ∈ lw_all) (q4 : Cond.initialized y.cls ∈ lw_all) (q5 : Cond.code y bytes maxL ry ∈ lw_all)
    (hd : y.cls ≠ "java/lang/invoke/MethodHandle" ∧ y.cls ≠ "java/lang/invoke/VarHandle") (hn : zz_par y.desc As.length) (hF : F1 + 1 ≤ F) (hL : 16 + (maxL + 11) + L1 ≤ L) (hr : rest.length ≤ 8) (d : decode cc pc = .ok (.invokevirtual index, 3)) :
    zz_run M G h0 nL h pc (pc + 3) (As.reverse ++ .ref b :: rest) rest o1 h1 := by
  refine zz_after (a := #[]) fun H locs ls cells slots I hsz T hT S => ?_
  obtain ⟨⟨hx, hbb, hml, hown, hts⟩, hX⟩ := id X
  obtain ⟨cell, g1, g2, g3, -⟩ := zz_recv X I hb hci
  have hK := zz_back (R := z_R M) (p := z_p M) (e := z_e M) (below := z_b M) (s := z_s M) (sargs := z_a M) (len := 3) (W9 := 16) hM (zz_F X hF) (zz_L X hL) (zz_wsK hts q5) (zz_codeK q5 hts) (zz_iniK hts q4)
  exact vx_callV S hx (C := y.cls) hown (hts _ q1) (hts _ q2) (hts _ q3) (hts _ q5) hd hK (by rw [hT]; exact g1) g2 (by rw [← hq]; exact g3) (g := F0 (z_m M) pc ls (As.reverse ++ .ref b :: rest)) rfl (hsz.trans hml.symm) (argsL := As) (rest := rest) hn.len rfl (zz_room hr) (by rw [hbb]; exact d)
    (fun vm₁ hW => zz_pre (As := .ref b :: As) X I hT vm₁ hW)
theorem zz_callVN (X : hp_X M G h0 own nm cc nL ret tb F L) {b t ci : Nat} {fs : List hp_V} {q : vw_C} {host : String} (hM : Ct (z_l M) y (ws_ y bytes maxL ry) F1 L1 G h (.ref b :: As) o1 h1) (hb : h.1 b = some (t, .inl (ci, fs))) (hci : hp_cl[ci]? = some q) (hq : q.1 = y.cls)
    (q1 : Cond.methodLinkNest own index y host ∈ lw_tbl) (q2 : Cond.instanceMethod y ∈ lw_all) (q3 : Cond.selects y.cls y y ∈ lw_all) (q4 : Cond.initialized y.cls ∈ lw_all) (q5 : Cond.code y bytes maxL ry ∈ lw_all)
    (hd : y.cls ≠ "java/lang/invoke/MethodHandle" ∧ y.cls ≠ "java/lang/invoke/VarHandle") (hn : zz_par y.desc As.length) (hF : F1 + 1 ≤ F) (hL : 16 + (maxL + 11) + L1 ≤ L) (hr : rest.length ≤ 8) (d : decode cc pc = .ok (.invokevirtual index, 3)) :
    zz_run M G h0 nL h pc (pc + 3) (As.reverse ++ .ref b :: rest) rest o1 h1 := by
  refine zz_after (a := #[]) fun H locs ls cells slots I hsz T hT S => ?_
  obtain ⟨⟨hx, hbb, hml, hown, hts⟩, hX⟩ := id X
  obtain ⟨cell, g1, g2, g3, -⟩ := zz_recv X I hb hci
  have hK := zz_back (R := z_R M) (p := z_p M) (e := z_e M) (below := z_b M) (s := z_s M) (sargs := z_a M) (len := 3) (W9 := 16) hM (zz_F X hF) (zz_L X hL) (zz_wsK hts q5) (zz_codeK q5 hts) (zz_iniK hts q4)
  exact vx_callVN S hx (C := y.cls) hown (va_Nw.use rfl (X.2.1.2.1 _ q1 rfl)) (hts _ q2) (hts _ q3) (hts _ q5) hd hK (by rw [hT]; exact g1) g2 (by rw [← hq]; exact g3) (g := F0 (z_m M) pc ls (As.reverse ++ .ref b :: rest)) rfl (hsz.trans hml.symm) (argsL := As) (rest := rest) hn.len rfl (zz_room hr) (by rw [hbb]; exact d)
    (fun vm₁ hW => zz_pre (As := .ref b :: As) X I hT vm₁ hW)
theorem zz_callS (X : hp_X M G h0 own nm cc nL ret tb F L) (hM : Ct (z_l M) y (ws_ y bytes maxL ry) F1 L1 G h As o1 h1)
    (q1 : Cond.methodLink own index y ∈ lw_all) (q2 : Cond.static y ∈ lw_all) (q4 : Cond.initialized y.cls ∈ lw_all) (q5 : Cond.code y bytes maxL ry ∈ lw_all)
    (hd : y.cls ≠ "java/lang/invoke/MethodHandle" ∧ y.cls ≠ "java/lang/invoke/VarHandle") (hn : zz_par y.desc As.length) (hF : F1 + 1 ≤ F) (hL : 16 + (maxL + 11) + L1 ≤ L) (hr : rest.length ≤ 8) (d : decode cc pc = .ok (.invokestatic index, 3)) :
    zz_run M G h0 nL h pc (pc + 3) (As.reverse ++ rest) rest o1 h1 := by
  refine zz_after (a := #[]) fun H locs ls cells slots I hsz T hT S => ?_
  obtain ⟨⟨hx, hbb, hml, hown, hts⟩, hX⟩ := id X
  have hK := zz_back (R := z_R M) (p := z_p M) (e := z_e M) (below := z_b M) (s := z_s M) (sargs := z_a M) (len := 3) (W9 := 16) hM (zz_F X hF) (zz_L X hL) (zz_wsK hts q5) (zz_codeK q5 hts) (zz_iniK hts q4)
  exact vx_callS S hx hown (hts _ q1) (hts _ q2) (hts _ q4) (hts _ q5) hd hK (g := F0 (z_m M) pc ls (As.reverse ++ rest)) rfl (hsz.trans hml.symm) (argsL := As) (rest := rest) hn.len rfl (zz_room hr) (by rw [hbb]; exact d)
    (fun vm₁ hW => zz_pre (As := As) X I hT vm₁ hW)
theorem zz_callSN (X : hp_X M G h0 own nm cc nL ret tb F L) {host : String} (hM : Ct (z_l M) y (ws_ y bytes maxL ry) F1 L1 G h As o1 h1)
    (q1 : Cond.methodLinkNest own index y host ∈ lw_tbl) (q2 : Cond.static y ∈ lw_all) (q4 : Cond.initialized y.cls ∈ lw_all) (q5 : Cond.code y bytes maxL ry ∈ lw_all)
    (hd : y.cls ≠ "java/lang/invoke/MethodHandle" ∧ y.cls ≠ "java/lang/invoke/VarHandle") (hn : zz_par y.desc As.length) (hF : F1 + 1 ≤ F) (hL : 16 + (maxL + 11) + L1 ≤ L) (hr : rest.length ≤ 8) (d : decode cc pc = .ok (.invokestatic index, 3)) :
    zz_run M G h0 nL h pc (pc + 3) (As.reverse ++ rest) rest o1 h1 := by
  refine zz_after (a := #[]) fun H locs ls cells slots I hsz T hT S => ?_
  obtain ⟨⟨hx, hbb, hml, hown, hts⟩, hX⟩ := id X
  have hK := zz_back (R := z_R M) (p := z_p M) (e := z_e M) (below := z_b M) (s := z_s M) (sargs := z_a M) (len := 3) (W9 := 16) hM (zz_F X hF) (zz_L X hL) (zz_wsK hts q5) (zz_codeK q5 hts) (zz_iniK hts q4)
  exact vx_callSN S hx hown (va_Nw.use rfl (X.2.1.2.1 _ q1 rfl)) (hts _ q2) (hts _ q4) (hts _ q5) hd hK (g := F0 (z_m M) pc ls (As.reverse ++ rest)) rfl (hsz.trans hml.symm) (argsL := As) (rest := rest) hn.len rfl (zz_room hr) (by rw [hbb]; exact d)
    (fun vm₁ hW => zz_pre (As := As) X I hT vm₁ hW)
theorem zz_callI (X : hp_X M G h0 own nm cc nL ret tb F L) {b : Nat} (hM : Ct (z_l M) y (ws_ y bytes maxL none) F1 L1 G h (.ref b :: As) o1 h1)
    (q1 : Cond.methodLink own index y ∈ lw_all) (q2 : Cond.instanceMethod y ∈ lw_all) (q4 : Cond.initialized y.cls ∈ lw_all) (q5 : Cond.code y bytes maxL none ∈ lw_all) (hy1 : y.name = "<init>")
    (hd : y.cls ≠ "java/lang/invoke/MethodHandle" ∧ y.cls ≠ "java/lang/invoke/VarHandle") (hn : zz_par y.desc As.length) (hF : F1 + 1 ≤ F) (hL : 16 + (maxL + 11) + L1 ≤ L) (hr : rest.length ≤ 8) (d : decode cc pc = .ok (.invokespecial index, 3)) :
    zz_run M G h0 nL h pc (pc + 3) (As.reverse ++ .ref b :: rest) rest o1 h1 := by
  refine zz_after (a := #[]) fun H locs ls cells slots I hsz T hT S => ?_
  obtain ⟨⟨hx, hbb, hml, hown, hts⟩, hX⟩ := id X
  have hK := zz_back (R := z_R M) (p := z_p M) (e := z_e M) (below := z_b M) (s := z_s M) (sargs := z_a M) (len := 3) (W9 := 16) hM (zz_F X hF) (zz_L X hL) (zz_wsK hts q5) (zz_codeK q5 hts) (zz_iniK hts q4)
  exact vx_callI S hx hown hy1 (hts _ q1) (hts _ q2) (hts _ q5) hd hK (g := F0 (z_m M) pc ls (As.reverse ++ .ref b :: rest)) rfl (hsz.trans hml.symm) (a := b) (argsL := As) (rest := rest) hn.len rfl (zz_room hr) (by rw [hbb]; exact d)
    (fun vm₁ hW => zz_pre (As := .ref b :: As) X I hT vm₁ hW)
theorem zz_callIN (X : hp_X M G h0 own nm cc nL ret tb F L) {b : Nat} {host : String} (hM : Ct (z_l M) y (ws_ y bytes maxL none) F1 L1 G h (.ref b :: As) o1 h1)
    (q1 : Cond.methodLinkNest own index y host ∈ lw_tbl) (q2 : Cond.instanceMethod y ∈ lw_all) (q4 : Cond.initialized y.cls ∈ lw_all) (q5 : Cond.code y bytes maxL none ∈ lw_all) (hy1 : y.name = "<init>")
    (hd : y.cls ≠ "java/lang/invoke/MethodHandle" ∧ y.cls ≠ "java/lang/invoke/VarHandle") (hn : zz_par y.desc As.length) (hF : F1 + 1 ≤ F) (hL : 16 + (maxL + 11) + L1 ≤ L) (hr : rest.length ≤ 8) (d : decode cc pc = .ok (.invokespecial index, 3)) :
    zz_run M G h0 nL h pc (pc + 3) (As.reverse ++ .ref b :: rest) rest o1 h1 := by
  refine zz_after (a := #[]) fun H locs ls cells slots I hsz T hT S => ?_
  obtain ⟨⟨hx, hbb, hml, hown, hts⟩, hX⟩ := id X
  have hK := zz_back (R := z_R M) (p := z_p M) (e := z_e M) (below := z_b M) (s := z_s M) (sargs := z_a M) (len := 3) (W9 := 16) hM (zz_F X hF) (zz_L X hL) (zz_wsK hts q5) (zz_codeK q5 hts) (zz_iniK hts q4)
  exact vx_callIN S hx hown hy1 (va_Nw.use rfl (X.2.1.2.1 _ q1 rfl)) (hts _ q2) (hts _ q5) hd hK (g := F0 (z_m M) pc ls (As.reverse ++ .ref b :: rest)) rfl (hsz.trans hml.symm) (a := b) (argsL := As) (rest := rest) hn.len rfl (zz_room hr) (by rw [hbb]; exact d)
    (fun vm₁ hW => zz_pre (As := .ref b :: As) X I hT vm₁ hW)
/-- inherited, or overridden: the link names x, the receiver's class C selects y -/
theorem zz_callU (X : hp_X M G h0 own nm cc nL ret tb F L) {b t ci : Nat} {fs : List hp_V} {q : vw_C} {x : MethodName} {owner : String} (hM : Ct (z_l M) y (ws_ y bytes maxL ry) F1 L1 G h (.ref b :: As) o1 h1) (hb : h.1 b = some (t, .inl (ci, fs))) (hci : hp_cl[ci]? = some q)
    (q1 : Cond.methodLink own index x ∈ lw_all) (qs : Cond.sameMethod x.cls owner x.name x.desc ∈ lw_all) (hdc : va_Decl (z_s M) ⟨owner, x.name, x.desc⟩) (hdo : owner ≠ "java/lang/invoke/MethodHandle" ∧ owner ≠ "java/lang/invoke/VarHandle") (q2 : Cond.instanceMethod y ∈ lw_all) (q3 : Cond.selects q.1 x y ∈ lw_all) (q4 : Cond.initialized y.cls ∈ lw_all) (q5 : Cond.code y bytes maxL ry ∈ lw_all)
    (hn : zz_par x.desc As.length) (hF : F1 + 1 ≤ F) (hL : 16 + (maxL + 11) + L1 ≤ L) (hr : rest.length ≤ 8) (d : decode cc pc = .ok (.invokevirtual index, 3)) :
    zz_run M G h0 nL h pc (pc + 3) (As.reverse ++ .ref b :: rest) rest o1 h1 := by
  refine zz_after (a := #[]) fun H locs ls cells slots I hsz T hT S => ?_
  obtain ⟨⟨hx, hbb, hml, hown, hts⟩, hX⟩ := id X
  obtain ⟨cell, g1, g2, g3, -⟩ := zz_recv X I hb hci
  have hK := zz_back (R := z_R M) (p := z_p M) (e := z_e M) (below := z_b M) (s := z_s M) (sargs := z_a M) (len := 3) (W9 := 16) hM (zz_F X hF) (zz_L X hL) (zz_wsK hts q5) (zz_codeK q5 hts) (zz_iniK hts q4)
  exact vx_callVU S hx (C := q.1) (owner := owner) hown (hts _ q1) (hts _ qs) hdc hdo (hts _ q3) (hts _ q2) (hts _ q5) hK (by rw [hT]; exact g1) g2 g3 (g := F0 (z_m M) pc ls (As.reverse ++ .ref b :: rest)) rfl (hsz.trans hml.symm) (argsL := As) (rest := rest) hn.len rfl (zz_room hr) (by rw [hbb]; exact d)
    (fun vm₁ hW => zz_pre (As := .ref b :: As) X I hT vm₁ hW)
theorem zz_callF (X : hp_X M G h0 own nm cc nL ret tb F L) {b t ci count : Nat} {fs : List hp_V} {q : vw_C} {x : MethodName} (hM : Ct (z_l M) y (ws_ y bytes maxL ry) F1 L1 G h (.ref b :: As) o1 h1) (hb : h.1 b = some (t, .inl (ci, fs))) (hci : hp_cl[ci]? = some q)
    (q1 : Cond.methodLink own index x ∈ lw_all) (hfw : (q.1, x, y) ∈ hp_fws) (q2 : Cond.instanceMethod y ∈ lw_all) (q3 : Cond.selects q.1 x y ∈ lw_all) (q4 : Cond.initialized y.cls ∈ lw_all) (q5 : Cond.code y bytes maxL ry ∈ lw_all)
    (hd : x.cls ≠ "java/lang/invoke/MethodHandle" ∧ x.cls ≠ "java/lang/invoke/VarHandle") (hn : zz_par x.desc As.length) (hF : F1 + 1 ≤ F) (hL : 16 + (maxL + 11) + L1 ≤ L) (hr : rest.length ≤ 8) (d : decode cc pc = .ok (.invokeinterface index count, 5)) :
    zz_run M G h0 nL h pc (pc + 5) (As.reverse ++ .ref b :: rest) rest o1 h1 := by
  refine zz_after (a := #[]) fun H locs ls cells slots I hsz T hT S => ?_
  obtain ⟨⟨hx, hbb, hml, hown, hts⟩, hX⟩ := id X
  obtain ⟨cell, g1, g2, g3, kB, g4⟩ := zz_recv X I hb hci
  have hFw := X.2.1.2.2.1 _ hfw
  have hK := zz_back (R := z_R M) (p := z_p M) (e := z_e M) (below := z_b M) (s := z_s M) (sargs := z_a M) (len := 5) (W9 := 16) hM (zz_F X hF) (zz_L X hL) (zz_wsK hts q5) (zz_codeK q5 hts) (zz_iniK hts q4)
  exact vx_callIF S hx (C := q.1) hown (hts _ q1) (va_any rfl hFw.1) (va_any rfl hFw.2.1) (hts _ q3) (hts _ q2) (va_any rfl hFw.2.2.1) (va_any rfl hFw.2.2.2.1) (va_any rfl hFw.2.2.2.2) (hts _ q5) hd hK (by rw [hT]; exact g1) g2 g3 g4 (g := F0 (z_m M) pc ls (As.reverse ++ .ref b :: rest)) rfl (hsz.trans hml.symm) (argsL := As) (rest := rest) hn.len rfl (zz_room hr) (by rw [hbb]; exact d)
    (fun vm₁ hW => zz_pre (As := .ref b :: As) X I hT vm₁ hW)
/-- the superclass's method, by 'super.' -/
theorem zz_callSU (X : hp_X M G h0 own nm cc nL ret tb F L) {b t ci : Nat} {fs : List hp_V} {q : vw_C} (hM : Ct (z_l M) y (ws_ y bytes maxL ry) F1 L1 G h (.ref b :: As) o1 h1) (hb : h.1 b = some (t, .inl (ci, fs))) (hci : hp_cl[ci]? = some q)
    (q1 : Cond.methodLink own index y ∈ lw_all) (qs : Cond.sameMethod y.cls y.cls y.name y.desc ∈ lw_all) (qp : Cond.superclass own y.cls ∈ lw_all) (q2 : Cond.instanceMethod y ∈ lw_all) (q4 : Cond.initialized y.cls ∈ lw_all) (q5 : Cond.code y bytes maxL ry ∈ lw_all) (hno : y.name ≠ "<init>")
    (hn : zz_par y.desc As.length) (hF : F1 + 1 ≤ F) (hL : 16 + (maxL + 11) + L1 ≤ L) (hr : rest.length ≤ 8) (d : decode cc pc = .ok (.invokespecial index, 3)) :
    zz_run M G h0 nL h pc (pc + 3) (As.reverse ++ .ref b :: rest) rest o1 h1 := by
  refine zz_after (a := #[]) fun H locs ls cells slots I hsz T hT S => ?_
  obtain ⟨⟨hx, hbb, hml, hown, hts⟩, hX⟩ := id X
  obtain ⟨cell, g1, g2, g3, kB, g4⟩ := zz_recv X I hb hci
  have hK := zz_back (R := z_R M) (p := z_p M) (e := z_e M) (below := z_b M) (s := z_s M) (sargs := z_a M) (len := 3) (W9 := 16) hM (zz_F X hF) (zz_L X hL) (zz_wsK hts q5) (zz_codeK q5 hts) (zz_iniK hts q4)
  exact vx_callSU S hx hown (hts _ q1) (hts _ qs) (hts _ qp) (hts _ q2) (hts _ q5) hno hK (by rw [hT]; exact g1) g2 g4 (g := F0 (z_m M) pc ls (As.reverse ++ .ref b :: rest)) rfl (hsz.trans hml.symm) (argsL := As) (rest := rest) hn.len rfl (zz_room hr) (by rw [hbb]; exact d)
    (fun vm₁ hW => zz_pre (As := .ref b :: As) X I hT vm₁ hW)
/-- a private method of a superclass -/
theorem zz_selP {s : State} {args : Array Value} {y : MethodName} {C : String} {c : ClassId} (hy : y.cls ≠ "java/lang/invoke/MethodHandle" ∧ y.cls ≠ "java/lang/invoke/VarHandle") (hc : s.vm.findClass C = some c) (hpriv : (Cond.privateMethod y).before args s = true) (hinst : (Cond.instanceMethod y).before args s = true) {C' : String} {x' y' : MethodName} (he : y'.cls = y.cls) (hs : (Cond.selects C' x' y').before args s = true) : (Cond.selects C y y).before args s = true := by
  obtain ⟨c2, r2, m2, q1, q2, q3, q4, kP, hkP, hni⟩ := Cond.selects_spec hs
  obtain ⟨mk, methM, hnamed, hmethM, -, -⟩ := Cond.instanceMethod_spec hinst
  have hfound : s.methodFound? y.cls y.name y.desc = some mk := State.methodFound?_of_named hnamed hy
  have hsel : selectMethod {} s.vm c mk = .method mk := selectMethod_private hmethM (Cond.privateMethod_at hpriv mk methM hnamed hmethM)
  have e1 : mk.cls = m2.cls := by
    have h1 := findClass_of_methodNamed hnamed
    have h2 := findClass_of_methodNamed q3
    rw [he] at h2
    exact Option.some.inj (h1.symm.trans h2)
  have hk2 : s.vm.classes[mk.cls]? = some kP := by rw [e1]; exact hkP
  simp only [Cond.before, Cond.holds, Cond.value, hc, hfound, hnamed, hsel, hk2]
  simp; exact hni
theorem zz_callP (X : hp_X M G h0 own nm cc nL ret tb F L) {b t ci : Nat} {fs : List hp_V} {q : vw_C} (hM : Ct (z_l M) y (ws_ y bytes maxL ry) F1 L1 G h (.ref b :: As) o1 h1) (hb : h.1 b = some (t, .inl (ci, fs))) (hci : hp_cl[ci]? = some q)
    (q1 : Cond.methodLink own index y ∈ lw_all) (q2 : Cond.instanceMethod y ∈ lw_all) (qp : Cond.privateMethod y ∈ lw_tbl) {C' : String} {x' y' : MethodName} (q3 : Cond.selects C' x' y' ∈ lw_all) (he : y'.cls = y.cls) (q4 : Cond.initialized y.cls ∈ lw_all) (q5 : Cond.code y bytes maxL ry ∈ lw_all)
    (hd : y.cls ≠ "java/lang/invoke/MethodHandle" ∧ y.cls ≠ "java/lang/invoke/VarHandle") (hn : zz_par y.desc As.length) (hF : F1 + 1 ≤ F) (hL : 16 + (maxL + 11) + L1 ≤ L) (hr : rest.length ≤ 8) (d : decode cc pc = .ok (.invokevirtual index, 3)) :
    zz_run M G h0 nL h pc (pc + 3) (As.reverse ++ .ref b :: rest) rest o1 h1 := by
  refine zz_after (a := #[]) fun H locs ls cells slots I hsz T hT S => ?_
  obtain ⟨⟨hx, hbb, hml, hown, hts⟩, hX⟩ := id X
  obtain ⟨cell, g1, g2, g3, -⟩ := zz_recv X I hb hci
  have hK := zz_back (R := z_R M) (p := z_p M) (e := z_e M) (below := z_b M) (s := z_s M) (sargs := z_a M) (len := 3) (W9 := 16) hM (zz_F X hF) (zz_L X hL) (zz_wsK hts q5) (zz_codeK q5 hts) (zz_iniK hts q4)
  exact vx_callV S hx (C := q.1) hown (hts _ q1) (hts _ q2) (zz_selP hd g3 (va_Nw.use rfl (X.2.1.2.1 _ qp rfl)) (hts _ q2) he (hts _ q3)) (hts _ q5) hd hK (by rw [hT]; exact g1) g2 g3 (g := F0 (z_m M) pc ls (As.reverse ++ .ref b :: rest)) rfl (hsz.trans hml.symm) (argsL := As) (rest := rest) hn.len rfl (zz_room hr) (by rw [hbb]; exact d)
    (fun vm₁ hW => zz_pre (As := .ref b :: As) X I hT vm₁ hW)
/-- callees with handlers -/
theorem zz_callVX {hh : List (Nat × Nat × Nat × Nat)} (X : hp_X M G h0 own nm cc nL ret tb F L) {b t ci : Nat} {fs : List hp_V} {q : vw_C} (hM : Ct (z_l M) y (wsW_ y bytes maxL ry hh) F1 L1 G h (.ref b :: As) o1 h1) (hb : h.1 b = some (t, .inl (ci, fs))) (hci : hp_cl[ci]? = some q) (hq : q.1 = y.cls)
    (q1 : Cond.methodLink own index y ∈ lw_all) (q2 : Cond.instanceMethod y ∈ lw_all) (q3 : Cond.selects y.cls y y ∈ lw_all) (q4 : Cond.initialized y.cls ∈ lw_all) (q5 : Cond.codeWith y bytes maxL ry hh ∈ lw_all)
    (hd : y.cls ≠ "java/lang/invoke/MethodHandle" ∧ y.cls ≠ "java/lang/invoke/VarHandle") (hn : zz_par y.desc As.length) (hF : F1 + 1 ≤ F) (hL : 16 + (maxL + 11) + L1 ≤ L) (hr : rest.length ≤ 8) (d : decode cc pc = .ok (.invokevirtual index, 3)) :
    zz_run M G h0 nL h pc (pc + 3) (As.reverse ++ .ref b :: rest) rest o1 h1 := by
  refine zz_after (a := #[]) fun H locs ls cells slots I hsz T hT S => ?_
  obtain ⟨⟨hx, hbb, hml, hown, hts⟩, hX⟩ := id X
  obtain ⟨cell, g1, g2, g3, -⟩ := zz_recv X I hb hci
  have hK := zz_back (R := z_R M) (p := z_p M) (e := z_e M) (below := z_b M) (s := z_s M) (sargs := z_a M) (len := 3) (W9 := 16) hM (zz_F X hF) (zz_L X hL) (zz_wsK hts q5) (zz_codeKW q5 hts) (zz_iniK hts q4)
  exact vx_callVX S hx (C := y.cls) hown (hts _ q1) (hts _ q2) (hts _ q3) (hts _ q5) hd hK (by rw [hT]; exact g1) g2 (by rw [← hq]; exact g3) (g := F0 (z_m M) pc ls (As.reverse ++ .ref b :: rest)) rfl (hsz.trans hml.symm) (argsL := As) (rest := rest) hn.len rfl (zz_room hr) (by rw [hbb]; exact d)
    (fun vm₁ hW => zz_pre (As := .ref b :: As) X I hT vm₁ hW)
theorem zz_callSX {hh : List (Nat × Nat × Nat × Nat)} (X : hp_X M G h0 own nm cc nL ret tb F L) (hM : Ct (z_l M) y (wsW_ y bytes maxL ry hh) F1 L1 G h As o1 h1)
    (q1 : Cond.methodLink own index y ∈ lw_all) (q2 : Cond.static y ∈ lw_all) (q4 : Cond.initialized y.cls ∈ lw_all) (q5 : Cond.codeWith y bytes maxL ry hh ∈ lw_all)
    (hd : y.cls ≠ "java/lang/invoke/MethodHandle" ∧ y.cls ≠ "java/lang/invoke/VarHandle") (hn : zz_par y.desc As.length) (hF : F1 + 1 ≤ F) (hL : 16 + (maxL + 11) + L1 ≤ L) (hr : rest.length ≤ 8) (d : decode cc pc = .ok (.invokestatic index, 3)) :
    zz_run M G h0 nL h pc (pc + 3) (As.reverse ++ rest) rest o1 h1 := by
  refine zz_after (a := #[]) fun H locs ls cells slots I hsz T hT S => ?_
  obtain ⟨⟨hx, hbb, hml, hown, hts⟩, hX⟩ := id X
  have hK := zz_back (R := z_R M) (p := z_p M) (e := z_e M) (below := z_b M) (s := z_s M) (sargs := z_a M) (len := 3) (W9 := 16) hM (zz_F X hF) (zz_L X hL) (zz_wsK hts q5) (zz_codeKW q5 hts) (zz_iniK hts q4)
  exact vx_callSX S hx hown (hts _ q1) (hts _ q2) (hts _ q4) (hts _ q5) hd hK (g := F0 (z_m M) pc ls (As.reverse ++ rest)) rfl (hsz.trans hml.symm) (argsL := As) (rest := rest) hn.len rfl (zz_room hr) (by rw [hbb]; exact d)
    (fun vm₁ hW => zz_pre (As := As) X I hT vm₁ hW)
end CALLS
