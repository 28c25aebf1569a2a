/-! The law's own walk, joined: if its function says 1, the machine comes to the law's end (names lw_P, lw_Q, lw_Z began in the kit's skeleton). -/
set_option maxRecDepth 100000
def R_law : String := "RenamedWordsLaw"
def lw_P (b : Addr) (xs : List Int32) (args : Array Value) (s : State) : Prop := args = #[.ref b] ∧ s.IntsAt b xs ∧ xs.length ≤ 144 ∧ (Jvm.Cond.and given_1 narrow_1).before args s = true
def lw_Q (_ : Array Value) (s : State) (o : Outcome) (t : State) : Prop := o = .returned (some (.int 1)) ∧ Framed s o t [] 1200144 5495482
def lw_Z (below : List Frame) (a : Array Value) (s : State) : State → Prop := fun t => ∃ o, t.status = .running ∧ Ended t below o ∧ lw_Q a s o t
/-- as the skeleton's, and: the law catches nothing, and its name -/
def lw_At (p : Program) (s : State) (m : MethodId) (meth : Method) (c : Code) (b L : Nat) (xs : Nat → Int32) : Prop :=
  (p.tables.exec = Jvm.exec ∧ c.code = code ∧ meth.sig.returnType = ret ∧ c.maxLocals = 9 ∧ s.vm.findClass R_law = some m.cls ∧ (∀ w ∈ lw_tbl, w.before #[Value.ref b] s = true) ∧ va_X b L xs s s.heap ∧ b < s.heap.size ∧ meth.locks = false ∧ (Jvm.Cond.and given_1 narrow_1).before #[Value.ref b] s = true) ∧ c.exceptionTable.toList = [] ∧ meth.name = "law"
theorem zz_flags {l : Launch} (h : l.flags = flags0) : l.stackTraces = false := by
  unfold Launch.stackTraces
  rw [h]
  decide +kernel
theorem zz_law {p : Program} {e : Env} {s : State} {m : MethodId} {below : List Frame} {meth : Method} {c : Code} (l : Launch) (hflags : l.flags = flags0) {b L : Nat} {xs : Nat → Int32} (C0 : lw_At p s m meth c b L xs)
    {G : va_G} {h0 : HP} (hk0 : hp_k h0 = 0) (hs0 : hp_s h0 = 0) (hro : ∀ a t x, h0.1 a = some (t, x) → t = 1) (hK : hp_K G (hp_c h0) s) (hR : hp_R G s h0 s.heap) {hf : HP} (hv : f_L_law (some b) h0 = some (1, hf)) :
    W p l e room_1 s m #[Value.ref b] below meth c s.heap [] 0 0 (lw_Z below #[Value.ref b] s) (entryFrame m ([Value.ref b] : List Value).toArray 9) := by
  obtain ⟨⟨q1, q2, q3, q4, q5, q6, q7, q8, q9, q10⟩, q11, q12⟩ := C0
  have hX : hp_X (p, l, e, room_1, s, m, #[Value.ref b], below, meth, c) G h0 "RenamedWordsLaw" "law" cL_law 9 (some .boolean) [] 8192 104096 :=
    ⟨⟨q1, q2, q4, q5, fun w hw => q6 w (lw_all_tbl hw)⟩, hK, q9, zz_flags hflags, q3, q11, q12, by show room_1 = hp_rm 8192 h0 104096; unfold hp_rm room_1; rw [hk0, hs0], hR⟩
  have hle := lv_entry [Value.ref b] (n := 9) (by simp [lg_sl, zz_cr])
  have e1 : lv_args 0 [Value.ref b] = lvL [(0, LR (some b))] := by simp [lv_args, lvL, lvV, zz_rfs, zz_cr]
  rw [e1] at hle
  have K := A_L_law hX (some b) h0 1 hf hv s.heap [] _ 0 0 ⟨hR, va_S.rf, fun a t c h1 h2 => absurd (hro a t c h1) h2, Nat.zero_add _, Nat.zero_add _, rfl, hR.1, hp_lim.rf⟩ hle
  intro T hT S
  have K' : z_W (p, l, e, room_1, s, m, #[Value.ref b], below, meth, c) s.heap [] 0 0 (hp_End (p, l, e, room_1, s, m, #[Value.ref b], below, meth, c) G h0 (jI 1) hf) (entryFrame m ([Value.ref b] : List Value).toArray 9) := by
    rw [lg_entry_eq]
    exact K
  obtain ⟨t, a1, oc, b1, b2, b3, b4, b5, b6, b7, b8, b9, L9, b10, b11⟩ := K' T hT S
  refine ⟨t, a1, oc, b1, b2, ?_⟩
  have b3 : oc = .returned (some (.int (iI 1))) := b3
  refine ⟨b3, ⟨_, b3⟩, b9, ?_⟩
  have hnew : ∀ z ∈ L9, s.heap.size ≤ z.base := by
    intro z hz
    rcases b11 z hz with ⟨t9, c9, h1, h2⟩ | h1
    · exact absurd (hro _ _ _ h1) h2
    · rw [← hR.1]; exact h1
  have b12 : s.sameButNew ({ t with vm := s.vm } : State) ([] ++ L9) (hp_k hf - hp_k h0) (hp_s hf - hp_s h0) := b10
  have h9 := State.sameButNew.drop_fresh b12 hnew
  refine State.sameButNew.mono h9 ?_ ?_
  · unfold hp_lim at b7; omega
  · unfold hp_lim at b7; omega
