/-! STAGE 1a: helpers of the printed functions. -/
set_option maxRecDepth 100000
abbrev jI : Int → hp_O := fun z => .inr (some (.int (iI z)))
abbrev jR : Option Nat → hp_O := fun z => .inr (some (va_rf z))
abbrev jJ : Int64 → hp_O := fun z => .inr (some (.long z))
abbrev jD : UInt64 → hp_O := fun z => .inr (some (.double z))
abbrev jV : Unit → hp_O := fun _ => .inr none
abbrev xI : Nat ⊕ Int → hp_O := fun r => Sum.map id (fun z : Int => some (.int (iI z))) r
abbrev xR : Nat ⊕ Option Nat → hp_O := fun r => Sum.map id (fun z : Option Nat => some (va_rf z)) r
abbrev xV : Nat ⊕ Unit → hp_O := fun r => Sum.map id (fun _ : Unit => none) r
/-- loops: a body with as much fuel as .. -/
def fx {α : Type} (bot : α) (body : α → α) : Nat → α
  | 0 => bot
  | n + 1 => body (fx bot body n)
theorem fx_succ {α : Type} (bot : α) (body : α → α) (n : Nat) : fx bot body (n + 1) = body (fx bot body n) := rfl
theorem FU_ex : ∃ n : Nat, 100000 ≤ n := ⟨100000, Nat.le_refl _⟩
noncomputable def FU : Nat := Classical.choose FU_ex
theorem FU_le : 100000 ≤ FU := Classical.choose_spec FU_ex
def tgOf (h : HP) (a : Nat) : Nat := match h.1 a with
  | some (t, _) => t
  | none => 0
def tgR (h : HP) (r : Option Nat) : Nat := match r with
  | some a => tgOf h a
  | none => 0
def rtZ {α : Type} (z : Int) (x : Option α) : Option α := if z = 0 ∨ z = 1 then x else none
def rtB {α : Type} (z : Int) (x : Option α) : Option α := if -128 ≤ z ∧ z ≤ 127 then x else none
def rtC {α : Type} (z : Int) (x : Option α) : Option α := if 0 ≤ z ∧ z ≤ 65535 then x else none
section GENH
variable {M : hp_M} {G : va_G} {h0 h : HP} {own nm : String} {cc : ByteArray} {nL F L : Nat} {ret : Option FieldType} {tb : List ExceptionTableEntry}
variable {ρ : Type} {inj : ρ → hp_O} {lv : List (Nat × LV)} {pc : Nat} {T : hp_O → HP → State → Prop}
theorem zz_char {z : Int} (g : 0 ≤ z ∧ z ≤ 65535) : narrow .char (.int (iI z)) = .int (iI z) := by
  have h1 : (iI z).toUInt32 % 65536 = (iI z).toUInt32 := by
    have h2 : (iI z).toUInt32.toNat = z.toNat := by
      obtain ⟨n, rfl⟩ : ∃ n : Nat, z = n := ⟨z.toNat, by omega⟩
      unfold iI
      rw [Int32.ofInt_eq_ofNat]
      show (BitVec.ofNat 32 n).toNat = _
      rw [BitVec.toNat_ofNat]
      omega
    apply UInt32.toNat.inj
    rw [UInt32.toNat_mod, h2]
    have : z.toNat < 65536 := by omega
    exact Nat.mod_eq_of_lt this
  show Value.int (((iI z).toUInt32 % 65536).toInt32) = _
  rw [h1]; rfl
theorem vv_iretI (X : hp_X M G h0 own nm cc nL ret tb F L) (hret : ret = some .int) {r : ρ} {z : Int} (e : inj r = .inr (some (.int (iI z)))) (d : decode cc pc = .ok (.ireturn, 1)) :
    vv M G h0 nL (hp_End M G h0) inj h pc lv [LI z] (some (r, h)) := vv_ireturn X hret e rfl d
theorem vv_iretZ (X : hp_X M G h0 own nm cc nL ret tb F L) (hret : ret = some .boolean) {r : ρ} {z : Int} (e : inj r = .inr (some (.int (iI z)))) (d : decode cc pc = .ok (.ireturn, 1)) :
    vv M G h0 nL (hp_End M G h0) inj h pc lv [LI z] (rtZ z (some (r, h))) := vv_if (fun g => vv_ireturn X hret e (by rcases g with g | g <;> subst g <;> decide +kernel) d) (fun _ => vv_none)
theorem vv_iret0 (X : hp_X M G h0 own nm cc nL ret tb F L) (hret : ret = some .boolean) {r : ρ} (e : inj r = .inr (some (.int (iI 0)))) (d : decode cc pc = .ok (.ireturn, 1)) :
    vv M G h0 nL (hp_End M G h0) inj h pc lv [LI 0] (some (r, h)) := vv_ireturn X hret e (by decide +kernel) d
theorem vv_iret1 (X : hp_X M G h0 own nm cc nL ret tb F L) (hret : ret = some .boolean) {r : ρ} (e : inj r = .inr (some (.int (iI 1)))) (d : decode cc pc = .ok (.ireturn, 1)) :
    vv M G h0 nL (hp_End M G h0) inj h pc lv [LI 1] (some (r, h)) := vv_ireturn X hret e (by decide +kernel) d
theorem vv_iretB (X : hp_X M G h0 own nm cc nL ret tb F L) (hret : ret = some .byte) {r : ρ} {z : Int} (e : inj r = .inr (some (.int (iI z)))) (d : decode cc pc = .ok (.ireturn, 1)) :
    vv M G h0 nL (hp_End M G h0) inj h pc lv [LI z] (rtB z (some (r, h))) := vv_if (fun g => vv_ireturn X hret e (zz_byte g).1 d) (fun _ => vv_none)
theorem vv_iretC (X : hp_X M G h0 own nm cc nL ret tb F L) (hret : ret = some .char) {r : ρ} {z : Int} (e : inj r = .inr (some (.int (iI z)))) (d : decode cc pc = .ok (.ireturn, 1)) :
    vv M G h0 nL (hp_End M G h0) inj h pc lv [LI z] (rtC z (some (r, h))) := vv_if (fun g => vv_ireturn X hret e (zz_char g) d) (fun _ => vv_none)
theorem vv_aretO (X : hp_X M G h0 own nm cc nL ret tb F L) {n : String} (hret : ret = some (.object n)) {r : ρ} {z : Option Nat} (e : inj r = .inr (some (va_rf z))) (d : decode cc pc = .ok (.areturn, 1)) :
    vv M G h0 nL (hp_End M G h0) inj h pc lv [LR z] (some (r, h)) := vv_areturn X hret (Or.inl ⟨_, rfl⟩) e d
theorem vv_aretA (X : hp_X M G h0 own nm cc nL ret tb F L) {n : FieldType} (hret : ret = some (.array n)) {r : ρ} {z : Option Nat} (e : inj r = .inr (some (va_rf z))) (d : decode cc pc = .ok (.areturn, 1)) :
    vv M G h0 nL (hp_End M G h0) inj h pc lv [LR z] (some (r, h)) := vv_areturn X hret (Or.inr ⟨_, rfl⟩) e d
theorem vv_pull {α : Type} {x : Option α} {K : α → Option (ρ × HP)} {st : List LV} (k : ∀ v, x = some v → vv M G h0 nL T inj h pc lv st (K v)) : vv M G h0 nL T inj h pc lv st (x.bind K) := vv_bnd k
variable {y : MethodName} {bytes : ByteArray} {maxL : Nat} {ry : Option FieldType} {F1 L1 index : Nat} {As rest : List Value} {o1 : hp_O} {h1 : HP}
/-- the receiver's class is another than the method's, and selects it -/
theorem zz_callW (X : hp_X M G h0 own nm cc nL ret tb F L) {b t ci : Nat} {fs : List hp_V} {q : vw_C} (hM : Ct (z_l M) y (ws_ y bytes maxL ry) F1 L1 G h (.ref b :: As) o1 h1) (hb : h.1 b = some (t, .inl (ci, fs))) (hci : hp_cl[ci]? = some q)
    (q1 : Cond.methodLink own index y ∈ lw_all) (q2 : Cond.instanceMethod y ∈ lw_all) (q3 : Cond.selects q.1 y y ∈ lw_all) (q4 : Cond.initialized y.cls ∈ lw_all) (q5 : Cond.code y bytes maxL ry ∈ lw_all)
    (hd : y.cls ≠ "java/lang/invoke/MethodHandle" ∧ y.cls ≠ "java/lang/invoke/VarHandle") (hn : zz_par y.desc As.length) (hF : F1 + 1 ≤ F) (hL : 16 + (maxL + 11) + L1 ≤ L) (hr : rest.length ≤ 8) (d : decode cc pc = .ok (.invokevirtual index, 3)) :
    zz_run M G h0 nL h pc (pc + 3) (As.reverse ++ .ref b :: rest) rest o1 h1 := by
  refine zz_after (a := #[]) fun H locs ls cells slots I hsz T hT S => ?_
  obtain ⟨⟨hx, hbb, hml, hown, hts⟩, hX⟩ := id X
  obtain ⟨cell, g1, g2, g3, -⟩ := zz_recv X I hb hci
  have hK := zz_back (R := z_R M) (p := z_p M) (e := z_e M) (below := z_b M) (s := z_s M) (sargs := z_a M) (len := 3) (W9 := 16) hM (zz_F X hF) (zz_L X hL) (zz_wsK hts q5) (zz_codeK q5 hts) (zz_iniK hts q4)
  exact vx_callV S hx (C := q.1) hown (hts _ q1) (hts _ q2) (hts _ q3) (hts _ q5) hd hK (by rw [hT]; exact g1) g2 g3 (g := F0 (z_m M) pc ls (As.reverse ++ .ref b :: rest)) rfl (hsz.trans hml.symm) (argsL := As) (rest := rest) hn.len rfl (zz_room hr) (by rw [hbb]; exact d)
    (fun vm₁ hW => zz_pre (As := .ref b :: As) X I hT vm₁ hW)
end GENH
theorem hlM {M : hp_M} {G : va_G} {h0 : HP} {own nm : String} {cc : ByteArray} {nL F L : Nat} {ret : Option FieldType} {tb : List ExceptionTableEntry} (X : hp_X M G h0 own nm cc nL ret tb F L) : (z_l M).stackTraces = false := X.2.2.2.1
theorem gs_0 (K : Nat → Option Nat) : ("java/lang/String", "COMPACT_STRINGS", "Z", Value.int 1) ∈ hp_sts K := List.mem_of_getElem? (i := 0) rfl
theorem gs_1 (K : Nat → Option Nat) : ("RenamedWords$Sort", "END", "LRenamedWords$Sort;", va_rf (K 100)) ∈ hp_sts K := List.mem_of_getElem? (i := 1) rfl
theorem gs_2 (K : Nat → Option Nat) : ("RenamedWords$Sort", "WORD", "LRenamedWords$Sort;", va_rf (K 101)) ∈ hp_sts K := List.mem_of_getElem? (i := 2) rfl
theorem gs_3 (K : Nat → Option Nat) : ("RenamedWords$Sort", "NUMBER", "LRenamedWords$Sort;", va_rf (K 102)) ∈ hp_sts K := List.mem_of_getElem? (i := 3) rfl
theorem gs_4 (K : Nat → Option Nat) : ("RenamedWords$Sort", "SIGN", "LRenamedWords$Sort;", va_rf (K 103)) ∈ hp_sts K := List.mem_of_getElem? (i := 4) rfl
theorem gs_5 (K : Nat → Option Nat) : ("RenamedWords$Sort", "BAD", "LRenamedWords$Sort;", va_rf (K 104)) ∈ hp_sts K := List.mem_of_getElem? (i := 5) rfl
theorem gs_6 (K : Nat → Option Nat) : ("java/lang/Integer", "DigitOnes", "[B", va_rf (K 105)) ∈ hp_sts K := List.mem_of_getElem? (i := 6) rfl
theorem gs_7 (K : Nat → Option Nat) : ("java/lang/Integer", "DigitTens", "[B", va_rf (K 106)) ∈ hp_sts K := List.mem_of_getElem? (i := 7) rfl
theorem gs_8 (K : Nat → Option Nat) : ("java/lang/Integer$IntegerCache", "cache", "[Ljava/lang/Integer;", va_rf (K 107)) ∈ hp_sts K := List.mem_of_getElem? (i := 8) rfl
theorem gs_9 (K : Nat → Option Nat) : ("java/lang/Integer$IntegerCache", "high", "I", Value.int 127) ∈ hp_sts K := List.mem_of_getElem? (i := 9) rfl
theorem gs_10 (K : Nat → Option Nat) : ("java/util/BitSet", "$assertionsDisabled", "Z", Value.int 1) ∈ hp_sts K := List.mem_of_getElem? (i := 10) rfl
theorem gs_11 (K : Nat → Option Nat) : ("java/lang/Throwable", "UNASSIGNED_STACK", "[Ljava/lang/StackTraceElement;", va_rf (K 108)) ∈ hp_sts K := List.mem_of_getElem? (i := 11) rfl
theorem gs_12 (K : Nat → Option Nat) : ("java/lang/Throwable", "SUPPRESSED_SENTINEL", "Ljava/util/List;", va_rf (K 109)) ∈ hp_sts K := List.mem_of_getElem? (i := 12) rfl
theorem gs_13 (K : Nat → Option Nat) : ("jdk/internal/util/Preconditions", "SIOOBE_FORMATTER", "Ljava/util/function/BiFunction;", va_rf (K 110)) ∈ hp_sts K := List.mem_of_getElem? (i := 13) rfl
/-! rows that came late -/
theorem vv_checkcastB {M : hp_M} {G : va_G} {h0 h : HP} {own nm : String} {cc : ByteArray} {nL F L : Nat} {ret : Option FieldType} {tb : List ExceptionTableEntry} {ρ : Type} {inj : ρ → hp_O} {lv : List (Nat × LV)} {pc : Nat} {T : hp_O → HP → State → Prop} {st : List LV} (X : hp_X M G h0 own nm cc nL ret tb F L) {ix : Nat} {r : Option Nat} {K : Unit → Option (ρ × HP)} (hl : Cond.classLink own ix "[B" ∈ lw_all) (d : decode cc pc = .ok (.checkcast ix, 3)) (k : vv M G h0 nL T inj h (pc + 3) lv (LR r :: st) (K ())) : vv M G h0 nL T inj h pc lv (LR r :: st) ((chkA h r .byte).bind K) := by
  intro r9 hf ho H locs ls cells slots I hls
  obtain ⟨u, hu, ho⟩ := Option.bind_eq_some_iff.mp ho
  have k8 := k r9 hf ho H locs ls cells slots I hls
  cases r with
  | none => exact lv_castN X.1.1 X.1.2.1 d k8
  | some b =>
    unfold chkA at hu
    dsimp only at hu
    split at hu
    · rename_i a t ty' n x e
      by_cases g : ty' = .byte
      · subst g
        obtain ⟨e1, e2⟩ := arr_some e
        cases e1
        obtain ⟨cA, p1, p2, p3⟩ := I.1.2.1 _ t _ e2
        have hP : va_P G hp_cl [(b, .inl (cA, hp_arr n x))] H := fun j q hj => by
          cases j with
          | zero => cases hj; exact p1
          | succ j => cases hj
        exact va_castA X.1.1 X.1.2.1 X.1.2.2.2.1 (X.1.2.2.2.2 _ hl) hP 0 rfl p3 d k8
      · rw [if_neg g] at hu; cases hu
    · cases hu
theorem zz_rfc (r : Option Nat) : (va_rf r).category = 1 := by cases r <;> rfl
theorem zz_rfs (a : Nat) : va_rf (some a) = .ref a := rfl
theorem zz_ci (z : Int32) : (Value.int z).category = 1 := rfl
theorem zz_cr (a : Nat) : (Value.ref a).category = 1 := rfl
theorem zz_cj (z : Int64) : (Value.long z).category = 2 := rfl
theorem zz_cf (z : UInt32) : (Value.float z).category = 1 := rfl
theorem zz_cd (z : UInt64) : (Value.double z).category = 2 := rfl
/-- clone of bytes -/
noncomputable def clB (h : HP) (r : Option Nat) : Option (Option Nat × HP) := match arr h r with
  | some (_, t, ty, n, .inl f) => @ite _ (ty = .byte ∧ n ≤ 1000000 ∧ ∀ k : Int, 0 ≤ k → k < n → -128 ≤ f k ∧ f k ≤ 127) (Classical.propDecidable _) (hp_new h t (.inr (.byte, n, .inl f)) n) none
  | _ => none
theorem vv_cloneB {M : hp_M} {G : va_G} {h0 h : HP} {own nm : String} {cc : ByteArray} {nL F L : Nat} {ret : Option FieldType} {tb : List ExceptionTableEntry} {ρ : Type} {inj : ρ → hp_O} {lv : List (Nat × LV)} {pc : Nat} {T : hp_O → HP → State → Prop} {st : List LV} (X : hp_X M G h0 own nm cc nL ret tb F L) {ix : Nat} {r : Option Nat} {K : Option Nat → HP → Option (ρ × HP)} (q1 : Cond.methodLink own ix ⟨"[B", "clone", "()Ljava/lang/Object;"⟩ ∈ lw_all) (hF : 1 ≤ F) (hL : 120 ≤ L) (hlen : st.length ≤ 8) (d : decode cc pc = .ok (.invokevirtual ix, 3)) (k9 : ∀ r h, vv M G h0 nL T inj h (pc + 3) lv (LR r :: st) (K r h)) : vv M G h0 nL T inj h pc lv (LR r :: st) (hb (clB h r) K) := by
  intro r9 hfi ho H locs ls cells slots I hls
  unfold hb at ho
  obtain ⟨⟨r1, h1⟩, hv, ho2⟩ := Option.bind_eq_some_iff.mp ho
  unfold clB at hv
  split at hv
  · rename_i a t ty n f e
    by_cases g : ty = .byte ∧ n ≤ 1000000 ∧ ∀ k : Int, 0 ≤ k → k < n → -128 ≤ f k ∧ f k ≤ 127
    · rw [if_pos g] at hv
      obtain ⟨rfl, g1, g2⟩ := g
      unfold hp_new at hv
      by_cases g3 : hp_k h + 1 ≤ 1200144 ∧ hp_s h + n ≤ 5495482
      · rw [if_pos g3] at hv
        cases hv
        obtain ⟨rfl, e2⟩ := arr_some e
        obtain ⟨cA, p1, p2, p3⟩ := I.1.2.1 a t _ e2
        have hts := X.1.2.2.2.2
        have hR := X.2.2.2.2.2.2.2.1
        have hsz := I.1.1
        have hcats := zz_cats (st.map lvV)
        rw [List.length_map] at hcats
        have hnm : (z_s M).vm.findClass "[B" = some cA := p3
        obtain ⟨c0, t0', f1, f2, f3⟩ := Cond.castable_spec (va_Nw.use (A := #[]) rfl (X.2.1.2.1 _ q389 rfl))
        cases hnm.symm.trans f1
        intro T9 hT S
        have hcellT : T9.heap[a]? = some (vp_cell cA (hp_arr n (.inl f))) := by rw [hT]; exact p1
        obtain ⟨-, kA, hkA, comp, hkind⟩ := State.isArrayOf_alike S.warmed.alike (p2 0 (fun _ => .null))
        obtain ⟨-, kS, hkS, compS, hkindS⟩ := p2 0 (fun _ => .null)
        obtain ⟨vm', X', st1⟩ := S.cloneArray X.1.1 X.1.2.2.2.1 (hts _ q1) (hts _ q385) (hts _ q386) (hts _ q387) (hts _ q388) (a := a) (cell := vp_cell cA (hp_arr n (.inl f))) hcellT (fun k h => by cases h) (fun h => by cases h) hnm f2 f3
          (fun i v hv => by
            have hk' : T9.vm.classes[cA]? = some kA := hkA
            have hff : fits .byte v = true := va_fit (fun i hi => (zz_byte (g2 (i : Int) (by omega) (by have h9 : i < n := hi; omega))).2) i v hv
            show T9.fitsSlot cA .none i v = true
            simpa [State.fitsSlot, State.slotType?, hk', hkind] using hff)
          (g := F0 (z_m M) pc ls (.ref a :: st.map lvV)) rfl (hls.1.trans X.1.2.2.1.symm) (rest := st.map lvV) rfl (by rw [X.1.2.1]; exact d) (by rw [hR]; exact hF) (by rw [hR]; show 2 * 0 + _ + 14 ≤ L; omega)
          (by rw [hR]; show cells + 1 ≤ 1200144 - hp_k h0; have := I.2.2.2.1; omega)
          (by rw [hR]; show slots + (arrV cA n (fun j => .int (iI (f (j : Int))))).slots.size ≤ 5495482 - hp_s h0; rw [arrV_size]; have := I.2.2.2.2.1; omega) (hloader := Vm.clonesLoader_of_array hkS hkindS)
        have hz : (vp_cell cA (hp_arr n (.inl f))).slots.size = n := arrV_size _ _ _
        rw [hz] at X'
        generalize hH1 : H.push (vp_cell cA (hp_arr n (.inl f))) = H1
        have z1 : H1.size = H.size + 1 := by rw [← hH1, Array.size_push]
        have e1 : H1[H.size]? = some (vp_cell cA (hp_arr n (.inl f))) := by rw [← hH1, Array.getElem?_push_size]
        have o1 : ∀ q : Nat, q < H.size → H1[q]? = H[q]? := fun q hq => by rw [← hH1, Array.getElem?_push, if_neg (Nat.ne_of_lt hq)]
        have I1 := I.add (t := t) (c := .inr (.byte, n, .inl f)) (n := n) (H1 := H1) ⟨cA, e1, p2, p3⟩ z1 o1 g3.1 g3.2
        have k8 := k9 (some (hp_n h)) _ r9 hfi ho2 H1 locs ls (cells + 1) (slots + n) I1 hls
        rw [hsz] at k8
        have hheap : ((T9.setVm vm').pushCell (vp_cell cA (hp_arr n (.inl f)))).heap = H1 := by rw [← hH1, ← hT]; rfl
        obtain ⟨tt, a1, b1⟩ := k8 _ hheap X'
        refine ⟨tt, st1 tt ?_, b1⟩
        rw [hT]
        exact a1
      · rw [if_neg g3] at hv; cases hv
    · rw [if_neg g] at hv; cases hv
  · cases hv
theorem vv_ldcwS {M : hp_M} {G : va_G} {h0 h : HP} {own nm : String} {cc : ByteArray} {nL F L : Nat} {ret : Option FieldType} {tb : List ExceptionTableEntry} {ρ : Type} {inj : ρ → hp_O} {lv : List (Nat × LV)} {pc : Nat} {T : hp_O → HP → State → Prop} {st : List LV} {o : Option (ρ × HP)} (X : hp_X M G h0 own nm cc nL ret tb F L) {ix i : Nat} {tx : String} (q : (own, ix, tx, i) ∈ hp_strs) (d : decode cc pc = .ok (.ldc_w ix, 3)) (k : vv M G h0 nL T inj h (pc + 3) lv (LR (hp_c h i) :: st) o) : vv M G h0 nL T inj h pc lv (st) o := by
  intro r9 hf ho H locs ls cells slots I hls
  obtain ⟨a, h1, h2⟩ := X.2.1.2.2.2.2.2 _ q
  have e1 : hp_c h i = some a := by rw [I.2.2.2.2.2.1]; exact h1
  have k9 := k r9 hf ho H locs ls cells slots I hls
  rw [e1] at k9
  intro T9 hT S
  obtain ⟨t, a1, b1⟩ := k9 T9 hT S
  exact ⟨t, S.ldcStringW X.1.1 X.1.2.2.2.1 (text := tx) (a := a) h2.1 h2.2 (g := F0 (z_m M) pc ls (st.map lvV)) rfl (by rw [X.1.2.1]; exact d) t a1, b1⟩
