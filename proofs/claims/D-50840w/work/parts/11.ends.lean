/-! STAGE 0d: entry, ends, what goes on behind a call. -/
set_option maxRecDepth 100000
theorem zz_ofW {l : Launch} (hl : l.stackTraces = false) {y : MethodName} {cc : ByteArray} {maxL F L : Nat} {ry : Option FieldType} {G : va_G} {h : HP} {As : List Value} {ρ : Type} {inj : ρ → hp_O} {o : Option (ρ × HP)} {lv : List (Nat × LV)}
    (hy : plainFor y = true) (hlv : lv_args 0 As = lvL lv) (hsz : (lg_sl As).length ≤ maxL)
    (body : ∀ M : hp_M, hp_X M G h y.cls y.name cc maxL ry [] F L → vv M G h maxL (hp_End M G h) inj h 0 lv [] o) :
    ∀ (r : ρ) (hf : HP), o = some (r, hf) → Ct l y (ws_ y cc maxL ry) F L G h As (inj r) hf := by
  intro r hf ho
  refine MetFree.of_bodySF (code := cc) (maxLocals := maxL) (ret := ry) hy ?_ ?_
  · intro args s m hh hn
    obtain ⟨meth, c, h1, h2, h3, h4, h5, h6, -, -⟩ := Cond.code_spec hn (atoms_spec (ws := ws_ y cc maxL ry) hh _ List.mem_cons_self)
    exact ⟨meth, c, h1, h2, h3, h4, h5, h6⟩
  · intro p e s m args below meth c s₁ B hml hP _
    obtain ⟨rfl, hKK, hRR⟩ := hP
    have hh0 : s₁.heap = s.heap := by rw [B.state]; rfl
    have hts0 := atoms_spec (ws := ws_ y cc maxL ry) B.pre
    have hts : ∀ w ∈ lw_all, w.before _ s = true := fun w hw => hts0 w (List.mem_cons_of_mem _ hw)
    have ht : c.exceptionTable.toList = [] := by
      obtain ⟨meth9, c9, h1, h2, -, -, -, -, h7, -⟩ := Cond.code_spec B.named (hts0 _ List.mem_cons_self)
      cases Option.some.inj (h1.symm.trans B.method)
      cases Option.some.inj (h2.symm.trans (Stand.of_body B).code)
      rw [Array.isEmpty_iff.mp h7]
    have hX : hp_X (p, l, e, hp_rm F h L, s, m, As.toArray, below, meth, c) G h y.cls y.name cc maxL ry [] F L :=
      ⟨⟨B.exec, B.bytes, hml, findClass_of_methodNamed B.named, hts⟩, hKK, B.notSynchronized, hl, B.returns, ht, (name_of_methodNamed B.named B.method).1, rfl, hRR⟩
    have hle := lv_entry As (n := maxL) hsz
    rw [hlv] at hle
    have K := body _ hX r hf ho s.heap [] _ 0 0 ⟨hRR, va_S.rf, fun a t c h1 h2 => Or.inl ⟨t, c, h1, h2⟩, Nat.zero_add _, Nat.zero_add _, rfl, hRR.1, hp_lim.rf⟩ hle
    have K' : W p l e (hp_rm F h L) s m As.toArray below meth c s.heap [] 0 0 (hp_End (p, l, e, hp_rm F h L, s, m, As.toArray, below, meth, c) G h (inj r) hf) (entryFrame m As.toArray maxL) := by
      rw [lg_entry_eq]
      exact K
    obtain ⟨t, a1, oc, b1, b2, b3, b4⟩ := K' s₁ hh0 (Stand.of_body B)
    exact ⟨t, oc, a1, b1, b2, b3, b4⟩
theorem zz_ofWH {l : Launch} (hl : l.stackTraces = false) {y : MethodName} {cc : ByteArray} {maxL F L : Nat} {ry : Option FieldType} {hh : List (Nat × Nat × Nat × Nat)} {G : va_G} {h : HP} {As : List Value} {ρ : Type} {inj : ρ → hp_O} {o : Option (ρ × HP)} {lv : List (Nat × LV)}
    (hy : plainFor y = true) (hlv : lv_args 0 As = lvL lv) (hsz : (lg_sl As).length ≤ maxL)
    (body : ∀ M : hp_M, hp_X M G h y.cls y.name cc maxL ry (tableOf hh) F L → vv M G h maxL (hp_End M G h) inj h 0 lv [] o) :
    ∀ (r : ρ) (hf : HP), o = some (r, hf) → Ct l y (wsW_ y cc maxL ry hh) F L G h As (inj r) hf := by
  intro r hf ho
  refine MetFree.of_bodySF (code := cc) (maxLocals := maxL) (ret := ry) hy ?_ ?_
  · intro args s m hhh hn
    obtain ⟨m9, meth, c, hn9, h1, h2, h3, h4, -, h5, h6, -⟩ := Cond.codeWith_spec (atoms_spec (ws := wsW_ y cc maxL ry hh) hhh _ List.mem_cons_self)
    cases hn.symm.trans hn9
    exact ⟨meth, c, h1, h2, h3, h4, h5, h6⟩
  · intro p e s m args below meth c s₁ B hml hP _
    obtain ⟨rfl, hKK, hRR⟩ := hP
    have hh0 : s₁.heap = s.heap := by rw [B.state]; rfl
    have hts0 := atoms_spec (ws := wsW_ y cc maxL ry hh) B.pre
    have hts : ∀ w ∈ lw_all, w.before _ s = true := fun w hw => hts0 w (List.mem_cons_of_mem _ hw)
    have ht : c.exceptionTable.toList = tableOf hh := vx_table (x := y) B (hts0 _ List.mem_cons_self)
    have hX : hp_X (p, l, e, hp_rm F h L, s, m, As.toArray, below, meth, c) G h y.cls y.name cc maxL ry (tableOf hh) F L :=
      ⟨⟨B.exec, B.bytes, hml, findClass_of_methodNamed B.named, hts⟩, hKK, B.notSynchronized, hl, B.returns, ht, (name_of_methodNamed B.named B.method).1, rfl, hRR⟩
    have hle := lv_entry As (n := maxL) hsz
    rw [hlv] at hle
    have K := body _ hX r hf ho s.heap [] _ 0 0 ⟨hRR, va_S.rf, fun a t c h1 h2 => Or.inl ⟨t, c, h1, h2⟩, Nat.zero_add _, Nat.zero_add _, rfl, hRR.1, hp_lim.rf⟩ hle
    have K' : W p l e (hp_rm F h L) s m As.toArray below meth c s.heap [] 0 0 (hp_End (p, l, e, hp_rm F h L, s, m, As.toArray, below, meth, c) G h (inj r) hf) (entryFrame m As.toArray maxL) := by
      rw [lg_entry_eq]
      exact K
    obtain ⟨t, a1, oc, b1, b2, b3, b4⟩ := K' s₁ hh0 (Stand.of_body B)
    exact ⟨t, oc, a1, b1, b2, b3, b4⟩
section ENDS
variable {M : hp_M} {G : va_G} {h0 h : HP} {own nm : String} {cc : ByteArray} {nL F L : Nat} {ret : Option FieldType} {tb : List ExceptionTableEntry}
variable {ρ : Type} {inj : ρ → hp_O} {lv : List (Nat × LV)} {pc : Nat} {T : hp_O → HP → State → Prop}
theorem zz_endI {H : Heap} {locs : List Loc} {cells slots : Nat} (I : hp_I M G h0 h H locs cells slots) {t : State} (e : t.heap = H) (hW : (z_s M).WarmedH t.vm) (hs : (z_s M).sameButNew ({ t with vm := (z_s M).vm } : State) locs cells slots) : hp_Qs G h0 h (z_s M) t := by
  refine ⟨by rw [e]; exact I.1.moved hW.alike, I.2.1.F e, I.2.2.1, I.2.2.2.2.2.2.2, I.2.2.2.2.2.1, hW, locs, ?_, I.2.1.2.2⟩
  have e1 : hp_k h - hp_k h0 = cells := by have := I.2.2.2.1; omega
  have e2 : hp_s h - hp_s h0 = slots := by have := I.2.2.2.2.1; omega
  rw [e1, e2]; exact hs
theorem zz_endM {H : Heap} {locs : List Loc} {cells slots : Nat} (I : hp_I M G h0 h H locs cells slots) {v : Option Value} {g : JFrame}
    (k : z_W M H locs cells slots (MQ (z_b M) (fun _ _ oc t => oc = .returned v ∧ t.heap = H) (z_a M) (z_s M) cells slots (hp_A h0)) g) : z_W M H locs cells slots (hp_End M G h0 (.inr v) h) g := by
  intro T hT X
  obtain ⟨t, a1, oc, b1, b2, ⟨b3, b4⟩, L9, hF, hL⟩ := k T hT X
  obtain ⟨-, hW, hs⟩ := hF
  refine ⟨t, a1, oc, b1, b2, b3, ?_⟩
  refine ⟨by rw [b4]; exact I.1.moved hW.alike, I.2.1.F b4, I.2.2.1, I.2.2.2.2.2.2.2, I.2.2.2.2.2.1, hW, L9, ?_, hL⟩
  have e1 : hp_k h - hp_k h0 = cells := by have := I.2.2.2.1; omega
  have e2 : hp_s h - hp_s h0 = slots := by have := I.2.2.2.2.1; omega
  rw [e1, e2]; exact hs
theorem vv_ret {r : ρ} {v : Option Value} {st : List LV} (e : inj r = .inr v)
    (k : ∀ (H : Heap) (locs : List Loc) (ls : Array Slot) (cells slots : Nat), hp_I M G h0 h H locs cells slots → z_W M H locs cells slots (MQ (z_b M) (fun _ _ oc t => oc = .returned v ∧ t.heap = H) (z_a M) (z_s M) cells slots (hp_A h0)) (F0 (z_m M) pc ls (st.map lvV))) :
    vv M G h0 nL (hp_End M G h0) inj h pc lv st (some (r, h)) := by
  intro r9 hf ho H locs ls cells slots I hls
  cases ho
  rw [e]
  exact zz_endM I (k H locs ls cells slots I)
/-- int, boolean, char, byte -/
theorem vv_ireturn (X : hp_X M G h0 own nm cc nL ret tb F L) {ty : FieldType} (hret : ret = some ty) {r : ρ} {z : Int} (e : inj r = .inr (some (.int (iI z)))) (hn : narrow ty (.int (iI z)) = .int (iI z)) (d : decode cc pc = .ok (.ireturn, 1)) :
    vv M G h0 nL (hp_End M G h0) inj h pc lv [LI z] (some (r, h)) := by
  refine vv_ret e fun H locs ls cells slots I => ?_
  have hr : (z_t M).sig.returnType = some ty := by rw [X.2.2.2.2.1, hret]
  exact W.zret (v := iI z) X.1.1 X.1.2.1 hr hn (fun t ht hW => ⟨rfl, ht⟩) I.2.1.2.2 d X.2.2.1
theorem vv_areturn (X : hp_X M G h0 own nm cc nL ret tb F L) {rt : FieldType} (hret : ret = some rt) (hrt : (∃ n, rt = .object n) ∨ ∃ t, rt = .array t) {r : ρ} {z : Option Nat} (e : inj r = .inr (some (va_rf z))) (d : decode cc pc = .ok (.areturn, 1)) :
    vv M G h0 nL (hp_End M G h0) inj h pc lv [LR z] (some (r, h)) := by
  refine vv_ret e fun H locs ls cells slots I => ?_
  have hr : (z_t M).sig.returnType = some rt := by rw [X.2.2.2.2.1, hret]
  exact W.aret (v := va_rf z) X.1.1 X.1.2.1 hr hrt (by cases z; exact Or.inl rfl; exact Or.inr ⟨_, rfl⟩) (fun t ht hW => ⟨rfl, ht⟩) I.2.1.2.2 d X.2.2.1
theorem vv_vreturn (X : hp_X M G h0 own nm cc nL ret tb F L) (hret : ret = none) {r : ρ} (e : inj r = .inr none) (d : decode cc pc = .ok (.return_, 1)) :
    vv M G h0 nL (hp_End M G h0) inj h pc lv [] (some (r, h)) := by
  refine vv_ret e fun H locs ls cells slots I => ?_
  have hr : (z_t M).sig.returnType = none := by rw [X.2.2.2.2.1, hret]
  exact W.vret X.1.1 X.1.2.1 hr (fun t ht hW => ⟨rfl, ht⟩) I.2.1.2.2 d X.2.2.1
theorem vv_lreturn (X : hp_X M G h0 own nm cc nL ret tb F L) (hret : ret = some .long) {r : ρ} {z : Int64} (e : inj r = .inr (some (.long z))) (d : decode cc pc = .ok (.lreturn, 1)) :
    vv M G h0 nL (hp_End M G h0) inj h pc lv [LJ z] (some (r, h)) := by
  refine vv_ret e fun H locs ls cells slots I => ?_
  have hr : (z_t M).sig.returnType = some .long := by rw [X.2.2.2.2.1, hret]
  exact W.lret X.1.1 X.1.2.1 hr (fun t ht hW => ⟨rfl, ht⟩) I.2.1.2.2 d X.2.2.1
theorem vv_dreturn (X : hp_X M G h0 own nm cc nL ret tb F L) (hret : ret = some .double) {r : ρ} {z : UInt64} (e : inj r = .inr (some (.double z))) (d : decode cc pc = .ok (.dreturn, 1)) :
    vv M G h0 nL (hp_End M G h0) inj h pc lv [LD z] (some (r, h)) := by
  refine vv_ret e fun H locs ls cells slots I => ?_
  have hr : (z_t M).sig.returnType = some .double := by rw [X.2.2.2.2.1, hret]
  exact W.dret X.1.1 X.1.2.1 hr (fun t ht hW => ⟨rfl, ht⟩) I.2.1.2.2 d X.2.2.1
/-- thrown on to the caller -/
theorem vvx_out (X : hp_X M G h0 own nm cc nL ret tb F L) (hout : ∀ x ∈ tb, covers x pc = false) {r : ρ} {q : Nat} {st : List LV} (e : inj r = .inl q) :
    vvx M G h0 nL (hp_End M G h0) inj h pc lv st q (some (r, h)) := by
  intro r9 hf ho H locs ls cells slots I hls
  cases ho
  rw [e]
  intro T hT S
  have hout' : ∀ x ∈ (z_c M).exceptionTable.toList, covers x pc = false := by rw [X.2.2.2.2.2.1]; exact hout
  obtain ⟨st1, hrun, hend, hW, hsm⟩ := S.leaveThrown q (g := F0 (z_m M) pc ls (st.map lvV)) rfl rfl rfl hout' X.2.2.1
  exact ⟨_, st1, .threw q, hrun, hend, rfl, zz_endI I hT hW hsm⟩
/-- caught here -/
theorem vvx_catch (X : hp_X M G h0 own nm cc nL ret tb F L) {q t ci : Nat} {fs : List hp_V} {E : vw_C} {name : String} {st : List LV} {o : Option (ρ × HP)} (hq : h.1 q = some (t, .inl (ci, fs))) (hci : hp_cl[ci]? = some E) (pre : List ExceptionTableEntry) (x : ExceptionTableEntry) (suf : List ExceptionTableEntry) (hsplit : tb = pre ++ x :: suf)
    (hpass : ∀ z ∈ pre, covers z pc = false ∨ (z.catchType ≠ 0 ∧ ∃ nm : String, Cond.classLink own z.catchType nm ∈ lw_all ∧ (E.1, nm) ∈ hp_ncs)) (hx : covers x pc = true) (h9 : x.catchType ≠ 0)
    (hlink : Cond.classLink own x.catchType name ∈ lw_all) (hcast : Cond.castable E.1 name ∈ lw_tbl)
    (k : vv M G h0 nL T inj h x.handlerPc lv [LR (some q)] o) : vvx M G h0 nL T inj h pc lv st q o := by
  intro r9 hf ho H locs ls cells slots I hls
  obtain ⟨⟨r, h1, cell, g1, g2, g3, -⟩, -⟩ := I.1.2.1 q t _ hq
  cases Option.some.inj (h1.symm.trans hci)
  have hfc := (X.2.1.1.1 ci E hci).2.1
  obtain ⟨hx9, hbb, hml, hown, hts⟩ := id X.1
  refine vx_catch (E := E.1) (ce := cell) hown pre x suf (by rw [X.2.2.2.2.2.1]; exact hsplit) (fun z hz => ?_) hx h9 (hts _ hlink) (va_Nw.use rfl (X.2.1.2.1 _ hcast rfl)) g1 g3 (by rw [g2]; exact hfc) (k r9 hf ho H locs ls cells slots I hls)
  rcases hpass z hz with h | ⟨h1, n9, h2, h3⟩
  · exact Or.inl h
  · exact Or.inr ⟨h1, n9, hts _ h2, X.2.1.2.2.2.2.1 _ h3⟩
theorem vv_athrow (X : hp_X M G h0 own nm cc nL ret tb F L) {z : Option Nat} {st : List LV} {K : Nat → Option (ρ × HP)} (d : decode cc pc = .ok (.athrow, 1)) (k : ∀ q, z = some q → vvx M G h0 nL T inj h pc lv st q (K q)) : vv M G h0 nL T inj h pc lv (LR z :: st) (z.bind K) := by
  intro r9 hf ho H locs ls cells slots I hls
  obtain ⟨q, hq, ho⟩ := Option.bind_eq_some_iff.mp ho
  subst hq
  exact vx_athrow X.1.1 X.1.2.1 d (k q rfl r9 hf ho H locs ls cells slots I hls)
/-- .. binds .. -/
def hb {α β : Type} (x : Option (α × HP)) (K : α → HP → Option β) : Option β := x.bind fun p => K p.1 p.2
theorem hb_some {α β : Type} {a : α} {h : HP} {K : α → HP → Option β} : hb (some (a, h)) K = K a h := rfl
def hbx {α β : Type} (x : Option ((Nat ⊕ α) × HP)) (Kx : Nat → HP → Option β) (K : α → HP → Option β) : Option β := x.bind fun p => match p.1 with
  | .inl q => Kx q p.2
  | .inr a => K a p.2
theorem hbx_inr {α β : Type} {a : α} {h : HP} {Kx : Nat → HP → Option β} {K : α → HP → Option β} : hbx (some (.inr a, h)) Kx K = K a h := rfl
theorem hbx_inl {α β : Type} {q : Nat} {h : HP} {Kx : Nat → HP → Option β} {K : α → HP → Option β} : hbx (some (.inl q, h)) Kx K = Kx q h := rfl
theorem vv_bnd {α : Type} {x : Option α} {K : α → Option (ρ × HP)} {st : List LV} (k : ∀ v, x = some v → vv M G h0 nL T inj h pc lv st (K v)) : vv M G h0 nL T inj h pc lv st (x.bind K) := by
  intro r9 hf ho H locs ls cells slots I hls
  obtain ⟨v, hv, ho⟩ := Option.bind_eq_some_iff.mp ho
  exact k v hv r9 hf ho H locs ls cells slots I hls
theorem vv_if {c : Prop} [Decidable c] {a b : Option (ρ × HP)} {st : List LV} (k1 : c → vv M G h0 nL T inj h pc lv st a) (k2 : ¬ c → vv M G h0 nL T inj h pc lv st b) : vv M G h0 nL T inj h pc lv st (if c then a else b) := by
  by_cases hc : c
  · rw [if_pos hc]; exact k1 hc
  · rw [if_neg hc]; exact k2 hc
theorem vvx_if {c : Prop} [Decidable c] {a b : Option (ρ × HP)} {q : Nat} {st : List LV} (k1 : c → vvx M G h0 nL T inj h pc lv st q a) (k2 : ¬ c → vvx M G h0 nL T inj h pc lv st q b) : vvx M G h0 nL T inj h pc lv st q (if c then a else b) := by
  by_cases hc : c
  · rw [if_pos hc]; exact k1 hc
  · rw [if_neg hc]; exact k2 hc
theorem vv_none {st : List LV} : vv M G h0 nL T inj h pc lv st none := fun _ _ ho => nomatch ho
theorem vvx_none {q : Nat} {st : List LV} : vvx M G h0 nL T inj h pc lv st q none := fun _ _ ho => nomatch ho
/-- fewer locals -/
theorem vv_sub {lv' : List (Nat × LV)} {st : List LV} {o : Option (ρ × HP)} (ks : List Nat) (e : ks.filterMap (fun k => lv[k]?) = lv') (k : vv M G h0 nL T inj h pc lv' st o) : vv M G h0 nL T inj h pc lv st o := by
  intro r9 hf ho H locs ls cells slots I hls
  refine k r9 hf ho H locs ls cells slots I (lv_sub hls ks ?_)
  subst e
  unfold lv_pick lvL
  rw [List.map_filterMap]
  congr 1
  funext k
  rw [List.getElem?_map]
theorem zz_call {α : Type} {x : Option (α × HP)} {inj1 : α → hp_O} {pc2 : Nat} {stv restv : List Value} {o : Option (ρ × HP)} {st : List LV} (hst : stv = st.map lvV) {r1 : α} {h1 : HP}
    (hr : zz_run M G h0 nL h pc pc2 stv restv (inj1 r1) h1)
    (k : match inj1 r1 with
      | .inr v => ∀ (r : ρ) (hf : HP), o = some (r, hf) → ∀ (H : Heap) (locs : List Loc) (ls : Array Slot) (cells slots : Nat), hp_I M G h0 h1 H locs cells slots → lv_has ls nL (lvL lv) → z_W M H locs cells slots (T (inj r) hf) (F0 (z_m M) pc2 ls (v.toList ++ restv))
      | .inl q => ∀ (r : ρ) (hf : HP), o = some (r, hf) → ∀ (H : Heap) (locs : List Loc) (ls : Array Slot) (cells slots : Nat), hp_I M G h0 h1 H locs cells slots → lv_has ls nL (lvL lv) → z_X M H locs cells slots (T (inj r) hf) (F0 (z_m M) pc ls restv) q) : vv M G h0 nL T inj h pc lv st o := by
  intro r9 hf ho H locs ls cells slots I hls
  subst hst
  refine hr H locs ls cells slots _ I hls.1 ?_
  generalize inj1 r1 = oo at k
  cases oo with
  | inl q => exact fun H1 l1 c1 s1 I1 => k r9 hf ho H1 l1 ls c1 s1 I1 hls
  | inr v => exact fun H1 l1 c1 s1 I1 => k r9 hf ho H1 l1 ls c1 s1 I1 hls
theorem vv_callI {x : Option (Int × HP)} {K : Int → HP → Option (ρ × HP)} {pc2 : Nat} {stv : List Value} {st rest : List LV} (hst : stv = st.map lvV) (hr : ∀ r1 h1, x = some (r1, h1) → zz_run M G h0 nL h pc pc2 stv (rest.map lvV) (.inr (some (.int (iI r1)))) h1)
    (k : ∀ r1 h1, vv M G h0 nL T inj h1 pc2 lv (LI r1 :: rest) (K r1 h1)) : vv M G h0 nL T inj h pc lv st (hb x K) := by
  unfold hb
  refine vv_bnd fun p hp => ?_
  obtain ⟨r1, h1⟩ := p
  exact zz_call (inj1 := fun z : Int => .inr (some (.int (iI z)))) (x := x) hst (hr r1 h1 hp) (k r1 h1)
theorem vv_callR {x : Option (Option Nat × HP)} {K : Option Nat → HP → Option (ρ × HP)} {pc2 : Nat} {stv : List Value} {st rest : List LV} (hst : stv = st.map lvV) (hr : ∀ r1 h1, x = some (r1, h1) → zz_run M G h0 nL h pc pc2 stv (rest.map lvV) (.inr (some (va_rf r1))) h1)
    (k : ∀ r1 h1, vv M G h0 nL T inj h1 pc2 lv (LR r1 :: rest) (K r1 h1)) : vv M G h0 nL T inj h pc lv st (hb x K) := by
  unfold hb
  refine vv_bnd fun p hp => ?_
  obtain ⟨r1, h1⟩ := p
  exact zz_call (inj1 := fun z : Option Nat => .inr (some (va_rf z))) (x := x) hst (hr r1 h1 hp) (k r1 h1)
theorem vv_callJ {x : Option (Int64 × HP)} {K : Int64 → HP → Option (ρ × HP)} {pc2 : Nat} {stv : List Value} {st rest : List LV} (hst : stv = st.map lvV) (hr : ∀ r1 h1, x = some (r1, h1) → zz_run M G h0 nL h pc pc2 stv (rest.map lvV) (.inr (some (.long r1))) h1)
    (k : ∀ r1 h1, vv M G h0 nL T inj h1 pc2 lv (LJ r1 :: rest) (K r1 h1)) : vv M G h0 nL T inj h pc lv st (hb x K) := by
  unfold hb
  refine vv_bnd fun p hp => ?_
  obtain ⟨r1, h1⟩ := p
  exact zz_call (inj1 := fun z : Int64 => .inr (some (.long z))) (x := x) hst (hr r1 h1 hp) (k r1 h1)
theorem vv_callD {x : Option (UInt64 × HP)} {K : UInt64 → HP → Option (ρ × HP)} {pc2 : Nat} {stv : List Value} {st rest : List LV} (hst : stv = st.map lvV) (hr : ∀ r1 h1, x = some (r1, h1) → zz_run M G h0 nL h pc pc2 stv (rest.map lvV) (.inr (some (.double r1))) h1)
    (k : ∀ r1 h1, vv M G h0 nL T inj h1 pc2 lv (LD r1 :: rest) (K r1 h1)) : vv M G h0 nL T inj h pc lv st (hb x K) := by
  unfold hb
  refine vv_bnd fun p hp => ?_
  obtain ⟨r1, h1⟩ := p
  exact zz_call (inj1 := fun z : UInt64 => .inr (some (.double z))) (x := x) hst (hr r1 h1 hp) (k r1 h1)
theorem vv_callV {x : Option (Unit × HP)} {K : Unit → HP → Option (ρ × HP)} {pc2 : Nat} {stv : List Value} {st rest : List LV} (hst : stv = st.map lvV) (hr : ∀ r1 h1, x = some (r1, h1) → zz_run M G h0 nL h pc pc2 stv (rest.map lvV) (.inr none) h1)
    (k : ∀ r1 h1, vv M G h0 nL T inj h1 pc2 lv rest (K r1 h1)) : vv M G h0 nL T inj h pc lv st (hb x K) := by
  unfold hb
  refine vv_bnd fun p hp => ?_
  obtain ⟨r1, h1⟩ := p
  exact zz_call (inj1 := fun _ : Unit => .inr none) (x := x) (r1 := r1) hst (hr r1 h1 hp) (k r1 h1)
/-- .. of callees that may throw -/
theorem vv_xallI {x : Option ((Nat ⊕ Int) × HP)} {K : Int → HP → Option (ρ × HP)} {Kx : Nat → HP → Option (ρ × HP)} {pc2 : Nat} {stv : List Value} {st rest : List LV} (hst : stv = st.map lvV) (hr : ∀ r1 h1, x = some (r1, h1) → zz_run M G h0 nL h pc pc2 stv (rest.map lvV) (Sum.map id (fun z : Int => some (.int (iI z))) r1) h1)
    (k : ∀ r1 h1, vv M G h0 nL T inj h1 pc2 lv (LI r1 :: rest) (K r1 h1)) (kx : ∀ q h1, vvx M G h0 nL T inj h1 pc lv rest q (Kx q h1)) : vv M G h0 nL T inj h pc lv st (hbx x Kx K) := by
  unfold hbx
  refine vv_bnd fun p hp => ?_
  obtain ⟨r1 | r1, h1⟩ := p
  · exact zz_call (inj1 := fun z : Nat ⊕ Int => Sum.map id (fun z : Int => some (.int (iI z))) z) (x := x) hst (hr (.inl r1) h1 hp) (kx r1 h1)
  · exact zz_call (inj1 := fun z : Nat ⊕ Int => Sum.map id (fun z : Int => some (.int (iI z))) z) (x := x) hst (hr (.inr r1) h1 hp) (k r1 h1)
theorem vv_xallR {x : Option ((Nat ⊕ Option Nat) × HP)} {K : Option Nat → HP → Option (ρ × HP)} {Kx : Nat → HP → Option (ρ × HP)} {pc2 : Nat} {stv : List Value} {st rest : List LV} (hst : stv = st.map lvV) (hr : ∀ r1 h1, x = some (r1, h1) → zz_run M G h0 nL h pc pc2 stv (rest.map lvV) (Sum.map id (fun z : Option Nat => some (va_rf z)) r1) h1)
    (k : ∀ r1 h1, vv M G h0 nL T inj h1 pc2 lv (LR r1 :: rest) (K r1 h1)) (kx : ∀ q h1, vvx M G h0 nL T inj h1 pc lv rest q (Kx q h1)) : vv M G h0 nL T inj h pc lv st (hbx x Kx K) := by
  unfold hbx
  refine vv_bnd fun p hp => ?_
  obtain ⟨r1 | r1, h1⟩ := p
  · exact zz_call (inj1 := fun z : Nat ⊕ Option Nat => Sum.map id (fun z : Option Nat => some (va_rf z)) z) (x := x) hst (hr (.inl r1) h1 hp) (kx r1 h1)
  · exact zz_call (inj1 := fun z : Nat ⊕ Option Nat => Sum.map id (fun z : Option Nat => some (va_rf z)) z) (x := x) hst (hr (.inr r1) h1 hp) (k r1 h1)
theorem vv_xallV {x : Option ((Nat ⊕ Unit) × HP)} {K : Unit → HP → Option (ρ × HP)} {Kx : Nat → HP → Option (ρ × HP)} {pc2 : Nat} {stv : List Value} {st rest : List LV} (hst : stv = st.map lvV) (hr : ∀ r1 h1, x = some (r1, h1) → zz_run M G h0 nL h pc pc2 stv (rest.map lvV) (Sum.map id (fun _ : Unit => none) r1) h1)
    (k : ∀ r1 h1, vv M G h0 nL T inj h1 pc2 lv rest (K r1 h1)) (kx : ∀ q h1, vvx M G h0 nL T inj h1 pc lv rest q (Kx q h1)) : vv M G h0 nL T inj h pc lv st (hbx x Kx K) := by
  unfold hbx
  refine vv_bnd fun p hp => ?_
  obtain ⟨r1 | r1, h1⟩ := p
  · exact zz_call (inj1 := fun z : Nat ⊕ Unit => Sum.map id (fun _ : Unit => none) z) (x := x) hst (hr (.inl r1) h1 hp) (kx r1 h1)
  · exact zz_call (inj1 := fun z : Nat ⊕ Unit => Sum.map id (fun _ : Unit => none) z) (x := x) hst (hr (.inr r1) h1 hp) (k r1 h1)
end ENDS
