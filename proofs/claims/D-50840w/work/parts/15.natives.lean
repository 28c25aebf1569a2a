/-! STAGE 0h: System.arraycopy, Float.floatToRawIntBits, new exceptions (follows the kit's va_copyi, vn_f2i, vx_make0). -/
set_option maxRecDepth 100000
def cpyI (f g : Int → Int) (sp dp n : Int) : Int → Int := fun j => if dp ≤ j ∧ j < dp + n then f (sp + (j - dp)) else g j
/-- System.arraycopy of ints or bytes -/
noncomputable def acpI (h : HP) (ty : FieldType) (src : Option Nat) (sp : Int) (dst : Option Nat) (dp n : Int) : Option HP := match arr h src, arr h dst with
  | some (_, _, ty0, n0, .inl f), some (a, t, ty1, n1, .inl g) =>
    @ite _ (ty0 = ty ∧ ty1 = ty ∧ (ty = .int ∨ (ty = .byte ∧ ∀ k, sp ≤ k → k < sp + n → -128 ≤ f k ∧ f k ≤ 127)) ∧ 0 ≤ sp ∧ 0 ≤ dp ∧ 0 ≤ n ∧ sp + n ≤ n0 ∧ dp + n ≤ n1 ∧ n0 ≤ 2147483647 ∧ n1 ≤ 2147483647 ∧ t ≠ 1) (Classical.propDecidable _) (some (hp_set h a (t, .inr (ty1, n1, .inl (cpyI f g sp dp n))))) none
  | _, _ => none
section NAT
variable {M : hp_M} {G : va_G} {h0 h : HP} {own nm : String} {cc : ByteArray} {nL F L : Nat} {ret : Option FieldType} {tb : List ExceptionTableEntry}
variable {ρ : Type} {inj : ρ → hp_O} {lv : List (Nat × LV)} {pc : Nat} {T : hp_O → HP → State → Prop} {st : List LV} {o : Option (ρ × HP)}
theorem vv_arraycopy (X : hp_X M G h0 own nm cc nL ret tb F L) {ix : Nat} {ty : FieldType} {src dst : Option Nat} {sp dp n : Int} {K : HP → Option (ρ × HP)} (q1 : Cond.methodLink own ix arraycopyName ∈ lw_all) (q2 : Cond.native arraycopyName ∈ lw_all) (q3 : Cond.static arraycopyName ∈ lw_all) (q4 : Cond.initialized "java/lang/System" ∈ lw_all) (hF : 1 ≤ F) (hL : 100 ≤ L) (hlen : st.length ≤ 8) (d : decode cc pc = .ok (.invokestatic ix, 3)) (k9 : ∀ h, vv M G h0 nL T inj h (pc + 3) lv st (K h)) : vv M G h0 nL T inj h pc lv (LI n :: LI dp :: LR dst :: LI sp :: LR src :: st) ((acpI h ty src sp dst dp n).bind K) := by
  intro r9 hfi ho H locs ls cells slots I hls
  obtain ⟨h9, hv, ho2⟩ := Option.bind_eq_some_iff.mp ho
  unfold acpI at hv
  split at hv
  · rename_i a0 t0 ty0 n0 f a t ty1 n1 g e0 e1
    by_cases gd : ty0 = ty ∧ ty1 = ty ∧ (ty = .int ∨ (ty = .byte ∧ ∀ k, sp ≤ k → k < sp + n → -128 ≤ f k ∧ f k ≤ 127)) ∧ 0 ≤ sp ∧ 0 ≤ dp ∧ 0 ≤ n ∧ sp + n ≤ n0 ∧ dp + n ≤ n1 ∧ n0 ≤ 2147483647 ∧ n1 ≤ 2147483647 ∧ t ≠ 1
    · rw [if_pos gd] at hv
      cases hv
      obtain ⟨rfl, c0⟩ := arr_some e0
      obtain ⟨rfl, c1⟩ := arr_some e1
      obtain ⟨rfl, rfl, gt, g1, g2, g3, g4, g5, g6, g7, nt1⟩ := gd
      obtain ⟨cA, p1, p2, p3⟩ := I.1.2.1 a0 t0 _ c0
      obtain ⟨cB, r1, r2, r3⟩ := I.1.2.1 a t _ c1
      have hinp : ∀ z : Int, 0 ≤ z → z ≤ 2147483647 → ¬ iI z < 0 ∧ ((iI z).toNatClampNeg : Int) = z ∧ (iI z).toInt = z := by
        intro z z1 z2
        have hin : inR z := ⟨by omega, by omega⟩
        refine ⟨?_, iI_clamp hin z1, iI_toInt hin⟩
        rw [← iI_0]; intro q; have := (iI_lt hin ⟨by omega, by omega⟩).mp q; omega
      obtain ⟨s1, s2, s3⟩ := hinp sp g1 (by omega)
      obtain ⟨d1, d2, d3⟩ := hinp dp g2 (by omega)
      obtain ⟨m1, m2, m3⟩ := hinp n g3 (by omega)
      obtain ⟨-, k0, hk0, cm0, hkk0⟩ := p2 n0 (fun j => .int (iI (f (j : Int))))
      obtain ⟨-, k1, hk1, cm1, hkk1⟩ := r2 n1 (fun j => .int (iI (g (j : Int))))
      have hprim : refKind ty1 = false := by rcases gt with e | ⟨e, -⟩ <;> rw [e] <;> rfl
      have hfit : ∀ i, i < (iI n).toNatClampNeg → fits ty1 (.int (iI (f (((iI sp).toNatClampNeg + i : Nat) : Int)))) = true := by
        intro i hi
        rcases gt with e | ⟨e, hr⟩
        · rw [e]; rfl
        · rw [e]; exact (zz_byte (hr _ (by omega) (by omega))).2
      have hR := X.2.2.2.2.2.2.2.1
      have hcats := zz_cats (st.map lvV)
      rw [List.length_map] at hcats
      intro T9 hT S
      obtain ⟨vm', X', step⟩ := S.arraycopy X.1.1 X.1.2.2.2.1 (X.1.2.2.2.2 _ q1) (X.1.2.2.2.2 _ q2) (X.1.2.2.2.2 _ q3) (X.1.2.2.2.2 _ q4) (src := a0) (dst := a) (cs := vp_cell cA (n0, .inl (fun j => iI (f (j : Int))))) (cd := vp_cell cB (n1, .inl (fun j => iI (g (j : Int))))) (srcPos := iI sp) (destPos := iI dp) (n := iI n) (by rw [hT]; exact p1) (by rw [hT]; exact r1)
        (fun _ h => by cases h) (fun _ h => by cases h) (fun h => by cases h) (fun h => by cases h) hk0 hk1 hkk0 hkk1 (by simp [hprim]) s1 d1 m1
        (by rw [s3, m3]; show ¬ _ > ((arrV cA n0 (fun j => .int (iI (f (j : Int))))).slots.size : Int); rw [arrV_size]; omega)
        (by rw [d3, m3]; show ¬ _ > ((arrV cB n1 (fun j => .int (iI (g (j : Int))))).slots.size : Int); rw [arrV_size]; omega)
        (fun vm₁ _ i hi => by
          have e : (vp_cell cA (n0, .inl (fun j => iI (f (j : Int))))).slots.getD ((iI sp).toNatClampNeg + i) .null = .int (iI (f (((iI sp).toNatClampNeg + i : Nat) : Int))) := by
            show (arrV cA n0 (fun j => .int (iI (f (j : Int))))).slots.getD _ _ = _
            rw [Array.getD_eq_getD_getElem?, arrV_read _ _ (by omega)]
            rfl
          refine ⟨?_, ?_⟩
          · rw [e]
            exact hfit i hi
          · rw [e]
            exact trivial)
        (g := F0 (z_m M) pc ls (.int (iI n) :: .int (iI dp) :: .ref a :: .int (iI sp) :: .ref a0 :: st.map lvV)) rfl (by rw [X.1.2.2.1]; exact hls.1) (rest := st.map lvV) rfl (by rw [X.1.2.1]; exact d) (by rw [hR]; exact hF)
        (by rw [hR]; have hw : nativeFrameWords "java/lang/System" "arraycopy" 5 ≤ 60 := by decide +kernel
            show 2 * 0 + _ + _ ≤ L; omega)
      have ec : copied (vp_cell cA (n0, .inl (fun j => iI (f (j : Int))))) (vp_cell cB (n1, .inl (fun j => iI (g (j : Int))))) (iI sp) (iI dp) (iI n) = vp_cell cB (n1, .inl (va_cpy (fun j => iI (f (j : Int))) (fun j => iI (g (j : Int))) (iI sp).toNatClampNeg (iI dp).toNatClampNeg (iI n).toNatClampNeg)) := va_copied (fun z => .int z) cA cB (n0 := n0) (n1 := n1) (sp := (iI sp).toNatClampNeg) (dp := (iI dp).toNatClampNeg) (n := (iI n).toNatClampNeg) (fun j => iI (f (j : Int))) (fun j => iI (g (j : Int))) (by omega)
      rw [ec] at X' step
      have hl : a < H.size := (Array.getElem?_eq_some_iff.mp r1).1
      have hcpy : va_cpy (fun j : Nat => iI (f (j : Int))) (fun j : Nat => iI (g (j : Int))) (iI sp).toNatClampNeg (iI dp).toNatClampNeg (iI n).toNatClampNeg = fun j : Nat => iI (cpyI f g sp dp n (j : Int)) := by
        funext j
        unfold va_cpy cpyI
        by_cases hj : (iI dp).toNatClampNeg ≤ j ∧ j < (iI dp).toNatClampNeg + (iI n).toNatClampNeg
        · rw [if_pos hj, if_pos (by omega)]
          show iI (f (((iI sp).toNatClampNeg + (j - (iI dp).toNatClampNeg) : Nat) : Int)) = iI (f (sp + ((j : Int) - dp)))
          rw [show (((iI sp).toNatClampNeg + (j - (iI dp).toNatClampNeg) : Nat) : Int) = sp + ((j : Int) - dp) by omega]
        · rw [if_neg hj, if_neg (by omega)]
      rw [hcpy] at X' step
      have hheap : ((T9.setVm vm').setCell a (vp_cell cB (n1, .inl (fun j : Nat => iI (cpyI f g sp dp n (j : Int)))))).heap = H.setIfInBounds a (vp_cell cB (n1, .inl (fun j : Nat => iI (cpyI f g sp dp n (j : Int))))) := by rw [← hT]; rfl
      have oq : ∀ q : Nat, q ≠ a → (H.setIfInBounds a (vp_cell cB (n1, .inl (fun j : Nat => iI (cpyI f g sp dp n (j : Int))))))[q]? = H[q]? := fun q hq => by simp [Array.getElem?_setIfInBounds, Ne.symm hq]
      obtain ⟨tt, a1, b1⟩ := k9 _ r9 hfi ho2 _ _ ls cells slots (I.set c1 nt1 nt1 ⟨cB, (show (H.setIfInBounds a _)[a]? = some (vp_cell cB (n1, .inl (fun j : Nat => iI (cpyI f g sp dp n (j : Int))))) by simp [Array.getElem?_setIfInBounds, hl]), r2, r3⟩ (by simp) oq (fun q hq => by
          obtain ⟨z, -, hz⟩ := List.mem_map.mp hq
          rw [← hz])) hls _ hheap X'
      exact ⟨tt, step tt a1, b1⟩
    · rw [if_neg gd] at hv; cases hv
  · cases hv
theorem vv_f2raw (X : hp_X M G h0 own nm cc nL ret tb F L) {ix : Nat} {b : UInt32} (q1 : Cond.methodLink own ix ⟨"java/lang/Float", "floatToRawIntBits", "(F)I"⟩ ∈ lw_all) (q2 : Cond.native ⟨"java/lang/Float", "floatToRawIntBits", "(F)I"⟩ ∈ lw_all) (q3 : Cond.static ⟨"java/lang/Float", "floatToRawIntBits", "(F)I"⟩ ∈ lw_all) (q4 : Cond.initialized "java/lang/Float" ∈ lw_all) (hF : 1 ≤ F) (hL : 100 ≤ L) (hlen : st.length ≤ 8) (d : decode cc pc = .ok (.invokestatic ix, 3)) (k : vv M G h0 nL T inj h (pc + 3) lv (LI (b.toInt32).toInt :: st) o) : vv M G h0 nL T inj h pc lv (LF b :: st) o := by
  intro r9 hfi ho H locs ls cells slots I hls
  have hR := X.2.2.2.2.2.2.2.1
  have hcats := zz_cats (st.map lvV)
  rw [List.length_map] at hcats
  have k8 := k r9 hfi ho H locs ls cells slots I hls
  rw [List.map_cons, lvV, iI_to] at k8
  exact vn_f2i X.1.1 X.1.2.1 (X.1.2.2.1.trans hls.1.symm) X.1.2.2.2.1 (X.1.2.2.2.2 _ q1) (X.1.2.2.2.2 _ q2) (X.1.2.2.2.2 _ q3) (X.1.2.2.2.2 _ q4) (by rw [hR]; exact hF) (by rw [hR]; show _ ≤ L; omega) d k8
/-- 'new E()' of an exception of the JDK's (no stack traces), as one step: new; dup; invokespecial -/
def nwX (h : HP) (t ci : Nat) : Option (Option Nat × HP) := hp_new h t (.inl (ci, [])) 6
theorem vv_newX (X : hp_X M G h0 own nm cc nL ret tb F L) {cls : String} {names : List String} {ik ic ci t : Nat} {T0 : u_T} {K : Option Nat → HP → Option (ρ × HP)} (hcls : Bundle.fit cls = true) (hnames : ∀ n ∈ names, Bundle.fit n = true)
    (hk : Cond.classLink own ik cls ∈ lw_all) (hini : Cond.initialized cls ∈ lw_all) (hat : ∀ w ∈ vx_at0 own ic cls names, w ∈ lw_tbl ∧ (goodWord w || hp_ngk w) = true)
    (hgood : ∀ w ∈ Cond.classLink own ik cls :: Cond.initialized cls :: vx_at0 own ic cls names, vx_ot w = true)
    (d0 : decode cc pc = .ok (.new ik, 3)) (d3 : decode cc (pc + 3) = .ok (.dup, 1)) (d4 : decode cc (pc + 4) = .ok (.invokespecial ic, 3)) (hc : hp_cl[ci]? = some (cls, T0, 0))
    (hF : names.length + 4 ≤ F) (hL : 13 * (names.length + 1) + 58 ≤ L) (hlen : st.length ≤ 8)
    (k9 : ∀ r h, vv M G h0 nL T inj h (pc + 7) lv (LR r :: st) (K r h)) : vv M G h0 nL T inj h pc lv st (hb (nwX h t ci) K) := by
  intro r9 hfi ho H locs ls cells slots I hls
  unfold nwX hp_new at ho
  by_cases g : hp_k h + 1 ≤ 1200144 ∧ hp_s h + 6 ≤ 5495482
  · rw [if_pos g, hb_some] at ho
    have hts := X.1.2.2.2.2
    have hexec := X.1.1
    have hbb := X.1.2.1
    have hR := X.2.2.2.2.2.2.2.1
    have hcats := zz_cats (st.map lvV)
    rw [List.length_map] at hcats
    have hRc : cells + 1 ≤ (z_R M).cells := by rw [hR]; show cells + 1 ≤ 1200144 - hp_k h0; have := I.2.2.2.1; omega
    have hRs : slots + 6 ≤ (z_R M).slots := by rw [hR]; show slots + 6 ≤ 5495482 - hp_s h0; have := I.2.2.2.2.1; omega
    have hRf : names.length + 3 < (z_R M).frames := by rw [hR]; exact hF
    have hRl : ((st.map lvV).map fun v => v.category).sum + (13 * (names.length + 1) + 42) ≤ (z_R M).locals := by rw [hR]; show _ ≤ L; omega
    have hatw : ∀ w ∈ vx_at0 own ic cls names, w.before (z_a M) (z_s M) = true := by
      intro w hw
      obtain ⟨h1, h2⟩ := hat w hw
      rw [Bool.or_eq_true] at h2
      rcases h2 with h2 | h2
      · exact hts w (lw_g h1 h2)
      · have h3 := X.2.1.2.1 w h1 h2
        have h4 : w.onTables = true := by
          cases w <;> first | rfl | (simp [hp_ngk] at h2; done)
        exact va_Nw.use h4 h3
    intro T9 hT S
    subst hT
    have htr : (z_e M).platform.stackTraces = false := (show (z_e M).platform.stackTraces = (z_l M).stackTraces by rw [S.admits.platform]).trans X.2.2.2.1
    have Y := vx_rebase S (R' := { frames := (z_R M).frames, locals := (z_R M).locals, cells := 1, slots := 6 }) (Nat.le_refl _) (Nat.le_refl _) hRc hRs
    obtain ⟨s', hA'⟩ : ∃ z, z = (T9.setVm (z_s M).vm).setFrames (.invoking (z_m M) (z_a M) :: (z_b M)) := ⟨_, rfl⟩
    rw [← hA'] at Y
    have hvm : s'.vm = (z_s M).vm := by rw [hA']; rfl
    have hhp : s'.heap = T9.heap := by rw [hA']; rfl
    have hW0 : (z_s M).WarmedH s'.vm := by rw [hvm]; exact State.WarmedH.refl (z_s M)
    have hat' : ∀ w ∈ vx_at0 own ic cls names, w.before (z_a M) s' = true := fun w hw => vx_ot_at hW0 hvm.symm (hgood w (List.mem_cons_of_mem _ (List.mem_cons_of_mem _ hw))) (hatw w hw)
    have hk' : (Cond.classLink own ik cls).before (z_a M) s' = true := vx_ot_at hW0 hvm.symm (hgood _ List.mem_cons_self) (hts _ hk)
    have hini' : (Cond.initialized cls).before (z_a M) s' = true := vx_ot_at hW0 hvm.symm (hgood _ (List.mem_cons_of_mem _ List.mem_cons_self)) (hts _ hini)
    have hU' : vx_Zq Bundle.tN "UNASSIGNED_STACK" Bundle.steD (hp_A h) s' s'.heap := by rw [hhp]; exact vx_Zq.moved hW0.alike I.1.2.2.2.1
    have hN' : vx_Zq Bundle.tN "SUPPRESSED_SENTINEL" Bundle.listD (hp_A h) s' s'.heap := by rw [hhp]; exact vx_Zq.moved hW0.alike I.1.2.2.2.2
    have hall : ∀ w ∈ Bundle.ownAtoms0 own ic cls names, w.before (z_a M) s' = true := vx_own hat' (vx_isRefq hU'.1) (vx_isRefq hN'.1) hU'.2.word hN'.2.word
    have hown' : s'.vm.findClass own = some (z_m M).cls := by rw [hvm]; exact X.1.2.2.2.1
    have hins : (Cond.instantiable cls 6).before (z_a M) s' = true := hall _ (by simp [Bundle.ownAtoms0])
    obtain ⟨vm₁, cX, kX, hfX, hkX, -, -, X₁, st1⟩ := Y.newCold hexec (own := own) (C := cls) (index := ik) (n := 6) hown' hk' hins hini'
      (g := F0 (z_m M) pc ls (st.map lvV)) rfl (by rw [hbb]; exact d0) (Nat.le_refl _) (Nat.le_refl _)
    generalize hT1 : (T9.setVm vm₁).pushCell { cls := cX, slots := kX.instanceTypes.map defaultValue, vm := .none } = T1 at X₁ st1
    have hcat : (Value.ref T9.heap.size).category = 1 := rfl
    have hcellA : T1.heap[T9.heap.size]? = some (freshCell cX kX) := by rw [← hT1]; exact State.heap_pushCell_size _ _
    have d3' : decode (z_c M).code (pc + 3) = .ok (.dup, 1) := by rw [hbb]; exact d3
    obtain ⟨V, ce, L9, Z, hL9, hlt, hcl9, hvm9, st9⟩ := vx_ctorMade0 X₁ hexec htr (own := own) (cls := cls) (names := names) (ic := ic) hown' hcls hnames hall (fun x hx => nomatch hx) hfX hkX hcellA (by rw [hhp]; exact Nat.le_refl _)
      (g := { method := z_m M, pc := pc + 4, locals := ls, stack := .ref T9.heap.size :: .ref T9.heap.size :: st.map lvV, locked := none }) rfl (hls.1.trans X.1.2.2.1.symm) (rest := st.map lvV) rfl
      (by rw [hbb]; exact d4) hRf (by simp only [List.map_cons, List.sum_cons, hcat]; omega)
    have Z0 := Stand.forget (locs := []) Z (fun y hy => by rw [hL9 y hy, hhp]; exact Nat.le_refl _)
    obtain ⟨f1, f2⟩ := vx_frame Z0.same
    have f3 := Z0.same.2.2.1
    have f3 : (V.setCell T9.heap.size ce).heap.size ≤ s'.heap.size + 1 := f3
    rw [hhp] at f1 f2 f3
    have hcid : ce.cls = G.1 ci := by
      rw [hcl9]
      have h1 := (X.2.1.1.1 ci _ hc).2.1
      rw [hvm] at hfX
      exact Option.some.inj (hfX.symm.trans h1)
    have hh : (V.setCell T9.heap.size ce).heap[T9.heap.size]? = some ce := heapAt_setCell_self (s := V) ce hlt
    have hsz : (V.setCell T9.heap.size ce).heap.size = T9.heap.size + 1 := by
      have h1 : T9.heap.size < (V.setCell T9.heap.size ce).heap.size := (Array.getElem?_eq_some_iff.mp hh).1
      omega
    subst hA'
    have X5 := vx_back9 S Y Z0
    have X6 : Stand (z_p M) (z_l M) (z_e M) (z_R M) (z_s M) (z_m M) (z_a M) (z_b M) (z_t M) (z_c M) (V.setCell T9.heap.size ce) locs (cells + 1) (slots + 6) := { X5 with same := X5.same.mono (by omega) (by omega) }
    have I1 := I.add (t := t) (c := .inl (ci, [])) (n := 6) (H1 := (V.setCell T9.heap.size ce).heap) ⟨⟨_, hc, ce, hh, hcid, hvm9, fun k hk => absurd hk (Nat.not_lt_zero k)⟩, _, hc, Nat.zero_le _⟩ hsz (fun q hq => f2 q hq (fun z hz => nomatch hz)) g.1 g.2
    have k8 := k9 (some (hp_n h)) _ r9 hfi ho _ locs ls (cells + 1) (slots + 6) I1 hls
    rw [I.1.1] at k8
    obtain ⟨tt, a1, b1⟩ := k8 _ rfl X6
    refine ⟨tt, st1 _ ?_, b1⟩
    show Steps (z_p M).tables (z_e M) (z_b M) (T1.setTop { method := z_m M, pc := pc + 3, locals := ls, stack := .ref T9.heap.size :: st.map lvV, locked := none }) _
    jvm_step X₁.here [X₁.here.top, hexec, d3', Value.category]
    exact st9 _ a1
  · rw [if_neg g] at ho; cases ho
end NAT
