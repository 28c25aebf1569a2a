/-! STAGE 0b: the judgement vv, contracts Ct, calls, ends. -/
set_option maxRecDepth 100000
abbrev hp_M : Type := Program × Launch × Env × Room × State × MethodId × Array Value × List Frame × Method × Code
abbrev z_p (M : hp_M) : Program := M.1
abbrev z_l (M : hp_M) : Launch := M.2.1
abbrev z_e (M : hp_M) : Env := M.2.2.1
abbrev z_R (M : hp_M) : Room := M.2.2.2.1
abbrev z_s (M : hp_M) : State := M.2.2.2.2.1
abbrev z_m (M : hp_M) : MethodId := M.2.2.2.2.2.1
abbrev z_a (M : hp_M) : Array Value := M.2.2.2.2.2.2.1
abbrev z_b (M : hp_M) : List Frame := M.2.2.2.2.2.2.2.1
abbrev z_t (M : hp_M) : Method := M.2.2.2.2.2.2.2.2.1
abbrev z_c (M : hp_M) : Code := M.2.2.2.2.2.2.2.2.2
abbrev z_W (M : hp_M) (H : Heap) (locs : List Loc) (cells slots : Nat) (Q : State → Prop) (g : JFrame) : Prop := W (z_p M) (z_l M) (z_e M) (z_R M) (z_s M) (z_m M) (z_a M) (z_b M) (z_t M) (z_c M) H locs cells slots Q g
abbrev z_X (M : hp_M) (H : Heap) (locs : List Loc) (cells slots : Nat) (Q : State → Prop) (g : JFrame) (q : Addr) : Prop := vx_W (z_p M) (z_l M) (z_e M) (z_R M) (z_s M) (z_m M) (z_a M) (z_b M) (z_t M) (z_c M) H locs cells slots Q g q
abbrev hp_O : Type := Nat ⊕ Option Value
abbrev hp_rm (F : Nat) (h : HP) (L : Nat) : Room := { frames := F, cells := 1200144 - hp_k h, slots := 5495482 - hp_s h, locals := L }
/-- what stays all through a method's run -/
def hp_X (M : hp_M) (G : va_G) (h0 : HP) (own nm : String) (cc : ByteArray) (nL : Nat) (ret : Option FieldType) (tb : List ExceptionTableEntry) (F L : Nat) : Prop :=
  ((z_p M).tables.exec = Jvm.exec ∧ (z_c M).code = cc ∧ (z_c M).maxLocals = nL ∧ (z_s M).vm.findClass own = some (z_m M).cls ∧ ∀ w ∈ lw_all, w.before (z_a M) (z_s M) = true) ∧
  hp_K G (hp_c h0) (z_s M) ∧ (z_t M).locks = false ∧ (z_l M).stackTraces = false ∧ (z_t M).sig.returnType = ret ∧ (z_c M).exceptionTable.toList = tb ∧ (z_t M).name = nm ∧ z_R M = hp_rm F h0 L ∧ hp_R G (z_s M) h0 (z_s M).heap
/-- what was made keeps to the room -/
def hp_lim (a b : HP) : Prop := hp_k a ≤ hp_k b ∧ hp_s a ≤ hp_s b ∧ (hp_k b = hp_k a ∨ hp_k b ≤ 1200144) ∧ (hp_s b = hp_s a ∨ hp_s b ≤ 5495482)
theorem hp_lim.rf {a : HP} : hp_lim a a := ⟨Nat.le_refl _, Nat.le_refl _, Or.inl rfl, Or.inl rfl⟩
theorem hp_lim.trans {a b c : HP} (h : hp_lim a b) (k : hp_lim b c) : hp_lim a c := by
  unfold hp_lim at *
  omega
/-- what holds at each point of the run -/
def hp_I (M : hp_M) (G : va_G) (h0 h : HP) (H : Heap) (locs : List Loc) (cells slots : Nat) : Prop :=
  hp_R G (z_s M) h H ∧ va_S (hp_A h0) (z_s M).heap H locs ∧ hp_in h (hp_A h0) ∧ cells + hp_k h0 = hp_k h ∧ slots + hp_s h0 = hp_s h ∧ hp_c h = hp_c h0 ∧ hp_n h0 = (z_s M).heap.size ∧ hp_lim h0 h
theorem hp_I.sub {M : hp_M} {G : va_G} {h0 h : HP} {H : Heap} {locs : List Loc} {cells slots : Nat} (I : hp_I M G h0 h H locs cells slots) : ∀ q, hp_A h q → hp_A h0 q := by
  intro q hq
  rcases hq with ⟨t, c, hq, h1⟩ | hq
  · exact I.2.2.1 q t c hq h1
  · refine Or.inr ?_
    rw [I.2.2.2.2.2.2.1]
    exact Nat.le_trans I.2.1.1 (by rw [← I.1.1]; exact hq)
theorem hp_I.new {M : hp_M} {G : va_G} {h0 h : HP} {H : Heap} {locs : List Loc} {cells slots : Nat} (I : hp_I M G h0 h H locs cells slots) : ∀ q, (z_s M).heap.size ≤ q → hp_A h0 q := fun q h => Or.inr (by rw [I.2.2.2.2.2.2.1]; exact h)
theorem hp_I.set {M : hp_M} {G : va_G} {h0 h : HP} {H H1 : Heap} {locs L : List Loc} {cells slots : Nat} (I : hp_I M G h0 h H locs cells slots) {a t t' : Nat} {c c' : hp_C} (e : h.1 a = some (t, c)) (n1 : t ≠ 1) (n2 : t' ≠ 1) (e1 : hp_at G (z_s M) a c' H1) (z : H1.size = H.size) (oq : ∀ q : Nat, q ≠ a → H1[q]? = H[q]?) (hL : ∀ l ∈ L, l.base = a) : hp_I M G h0 (hp_set h a (t', c')) H1 (locs ++ L) cells slots := by
  have ha : hp_A h0 a := I.2.2.1 a t c e n1
  refine ⟨I.1.set e n1 n2 e1 z oq, ⟨by rw [z]; exact I.2.1.1, fun q h1 h2 => ?_, fun q hq => ?_⟩, fun q t2 c2 hq h2 => ?_, I.2.2.2.1, I.2.2.2.2.1, I.2.2.2.2.2.1, I.2.2.2.2.2.2⟩
  · rw [oq q (fun z => h2 (by rw [z]; exact ha))]
    exact I.2.1.2.1 q h1 h2
  · rcases List.mem_append.mp hq with h | h
    · exact I.2.1.2.2 q h
    · rw [hL q h]; exact ha
  · by_cases hqa : q = a
    · rw [hqa]; exact ha
    · refine I.2.2.1 q t2 c2 ?_ h2
      unfold hp_set at hq
      dsimp only at hq
      rwa [if_neg hqa] at hq
theorem hp_I.add {M : hp_M} {G : va_G} {h0 h : HP} {H H1 : Heap} {locs : List Loc} {cells slots n : Nat} (I : hp_I M G h0 h H locs cells slots) {t : Nat} {c : hp_C} (e1 : hp_at G (z_s M) H.size c H1) (z : H1.size = H.size + 1) (oq : ∀ q : Nat, q < H.size → H1[q]? = H[q]?) (hk : hp_k h + 1 ≤ 1200144) (hs : hp_s h + n ≤ 5495482) : hp_I M G h0 (hp_add h (t, c) n) H1 locs (cells + 1) (slots + n) := by
  refine ⟨I.1.add e1 z oq, ⟨by rw [z]; exact Nat.le_succ_of_le I.2.1.1, fun q h1 h2 => ?_, I.2.1.2.2⟩, fun q t2 c2 hq h2 => ?_, ?_, ?_, I.2.2.2.2.2.1, I.2.2.2.2.2.2.1, ?_⟩
  · rw [oq q (Nat.lt_of_lt_of_le h1 I.2.1.1)]
    exact I.2.1.2.1 q h1 h2
  · exact I.sub q (hp_A.add (Or.inl ⟨t2, c2, hq, h2⟩))
  · have := I.2.2.2.1; show cells + 1 + hp_k h0 = hp_k h + 1; omega
  · have := I.2.2.2.2.1; show slots + n + hp_s h0 = hp_s h + n; omega
  · have h1 := I.2.2.2.2.2.2.2; unfold hp_lim at h1; exact ⟨by show hp_k h0 ≤ hp_k h + 1; omega, by show hp_s h0 ≤ hp_s h + n; omega, Or.inr hk, Or.inr hs⟩
/-- typed values of locals and stack -/
abbrev LV : Type := Int ⊕ Option Nat ⊕ Int64 ⊕ UInt32 ⊕ UInt64
abbrev LI (z : Int) : LV := .inl z
abbrev LR (r : Option Nat) : LV := .inr (.inl r)
abbrev LJ (x : Int64) : LV := .inr (.inr (.inl x))
abbrev LF (x : UInt32) : LV := .inr (.inr (.inr (.inl x)))
abbrev LD (x : UInt64) : LV := .inr (.inr (.inr (.inr x)))
def lvV (v : LV) : Value := match v with
  | .inl z => .int (iI z)
  | .inr (.inl r) => va_rf r
  | .inr (.inr (.inl x)) => .long x
  | .inr (.inr (.inr (.inl x))) => .float x
  | .inr (.inr (.inr (.inr x))) => .double x
def lvc (v : LV) : Nat := match v with
  | .inl _ => 1
  | .inr (.inl _) => 1
  | .inr (.inr (.inl _)) => 2
  | .inr (.inr (.inr (.inl _))) => 1
  | .inr (.inr (.inr (.inr _))) => 2
theorem lvV_cat (v : LV) : (lvV v).category = lvc v := by
  rcases v with z | r | x | x | x
  · rfl
  · cases r <;> rfl
  · rfl
  · rfl
  · rfl
def lvL (lv : List (Nat × LV)) : List (Nat × Value) := lv.map fun q => (q.1, lvV q.2)
/-- from here on, with heap h, locals lv, stack st, the run does what o says -/
def vv {ρ : Type} (M : hp_M) (G : va_G) (h0 : HP) (nL : Nat) (T : hp_O → HP → State → Prop) (inj : ρ → hp_O) (h : HP) (pc : Nat) (lv : List (Nat × LV)) (st : List LV) (o : Option (ρ × HP)) : Prop :=
  ∀ (r : ρ) (hf : HP), o = some (r, hf) → ∀ (H : Heap) (locs : List Loc) (ls : Array Slot) (cells slots : Nat), hp_I M G h0 h H locs cells slots → lv_has ls nL (lvL lv) → z_W M H locs cells slots (T (inj r) hf) (F0 (z_m M) pc ls (st.map lvV))
/-- .. with q thrown at pc -/
def vvx {ρ : Type} (M : hp_M) (G : va_G) (h0 : HP) (nL : Nat) (T : hp_O → HP → State → Prop) (inj : ρ → hp_O) (h : HP) (pc : Nat) (lv : List (Nat × LV)) (st : List LV) (q : Nat) (o : Option (ρ × HP)) : Prop :=
  ∀ (r : ρ) (hf : HP), o = some (r, hf) → ∀ (H : Heap) (locs : List Loc) (ls : Array Slot) (cells slots : Nat), hp_I M G h0 h H locs cells slots → lv_has ls nL (lvL lv) → z_X M H locs cells slots (T (inj r) hf) (F0 (z_m M) pc ls (st.map lvV)) q
def hp_oc (o : hp_O) (oc : Outcome) : Prop := match o with
  | .inl q => oc = .threw q
  | .inr v => oc = .returned v
def hp_Qs (G : va_G) (h0 hf : HP) (st t : State) : Prop :=
  hp_R G t hf t.heap ∧ va_F (hp_A h0) st t ∧ hp_in hf (hp_A h0) ∧ hp_lim h0 hf ∧ hp_c hf = hp_c h0 ∧ st.WarmedH t.vm ∧ ∃ L : List Loc, st.sameButNew ({ t with vm := st.vm } : State) L (hp_k hf - hp_k h0) (hp_s hf - hp_s h0) ∧ ∀ z ∈ L, hp_A h0 z.base
def hp_End (M : hp_M) (G : va_G) (h0 : HP) (o : hp_O) (hf : HP) : State → Prop := fun t => ∃ oc, t.status = .running ∧ Ended t (z_b M) oc ∧ hp_oc o oc ∧ hp_Qs G h0 hf (z_s M) t
abbrev hp_Pc (G : va_G) (h : HP) (As : List Value) : Array Value → State → Prop := va_Pc As (fun U => hp_K G (hp_c h) U ∧ hp_R G U h U.heap)
/-- the contract: y, called with As in a heap that shows h, comes to o, and the heap shows hf -/
def Ct (l : Launch) (y : MethodName) (ws : List Cond) (F L : Nat) (G : va_G) (h : HP) (As : List Value) (o : hp_O) (hf : HP) : Prop :=
  MetFree l y (headSpec ws (hp_rm F h L)) (hp_Pc G h As) (fun _ _ _ _ _ => True) (fun _ st oc t => hp_oc o oc ∧ hp_Qs G h hf st t)
theorem hp_Pc.blind {G : va_G} {h : HP} {As : List Value} : FrameBlind (hp_Pc G h As) := fun a U g mk q => ⟨q.1, hp_K.warm (State.WarmedH.refl U) q.2.1, hp_R.moved (u := U) (U := U.calling g mk a) (Vm.Alike.refl U.vm) q.2.2⟩
def zz_B (G : va_G) (h hf : HP) (A B : Pt) : Prop :=
  ∃ (st t : State) (L : List Loc), B.U.heap = t.heap ∧ B.U.vm = t.vm ∧ st.heap = A.U.heap ∧ hp_R G t hf t.heap ∧ va_F (hp_A h) st t ∧ hp_in hf (hp_A h) ∧ hp_lim h hf ∧ hp_c hf = hp_c h ∧ B.locs = A.locs ++ L ∧ (∀ q ∈ L, hp_A h q.base) ∧ B.cells = A.cells + (hp_k hf - hp_k h) ∧ B.slots = A.slots + (hp_s hf - hp_s h)
/-- a callee by its contract (follows vx_back; the room that it is given and what it uses of it are two things) -/
theorem zz_back {l : Launch} {R : Room} {p : Program} {e : Env} {below : List Frame} {s : State} {sargs : Array Value} {y : MethodName} {len W9 F L maxL : Nat} {ws : List Cond} {G : va_G} {h : HP} {As : List Value} {o : hp_O} {hf : HP}
    (hM : Ct l y ws F L G h As o hf) (hframes : F + 1 ≤ R.frames) (hlocals : W9 + (maxL + 11) + L ≤ R.locals)
    (hws : ∀ w ∈ ws, ∀ (a' : Array Value) (U : State), s.WarmedH U.vm → w.before a' U = true)
    (hcode : ∀ (a' : Array Value) (U : State), s.WarmedH U.vm → ∀ mk, U.methodNamed? y = some mk → ∃ (methY : Method) (cY : Code), U.vm.method? mk = some methY ∧ methY.code = some cY ∧ cY.maxLocals = maxL)
    (hinit : ∀ (a' : Array Value) (U : State), s.WarmedH U.vm → (Cond.initialized y.cls).before a' U = true) :
    vx_Back l R p e below s sargs y len W9 (fun A a => A.cells + (1200144 - hp_k h) ≤ R.cells ∧ A.slots + (5495482 - hp_s h) ≤ R.slots ∧ hp_Pc G h As a A.U) (fun A _ v B => o = .inr v ∧ zz_B G h hf A B) (fun A _ q B => o = .inl q ∧ zz_B G h hf A B) := by
  intro m meth c A g ig mk a X hg hsize hdg hW hn hp
  have h1 : (headSpec ws (hp_rm F h L)).pre.before a A.U = true := atoms_intro fun w hw => hws w hw _ _ X.warmed
  have h3 : (Cond.initialized y.cls).before a A.U = true := hinit _ _ X.warmed
  have h4 : A.cells + (headSpec ws (hp_rm F h L)).room.cells ≤ R.cells := hp.1
  have h5 : A.slots + (headSpec ws (hp_rm F h L)).room.slots ≤ R.slots := hp.2.1
  have hPc : hp_Pc G h As a (A.U.calling g mk a) := hp_Pc.blind _ _ _ _ hp.2.2
  obtain ⟨methY, cY, hmY, hcY, hlY⟩ := hcode a A.U X.warmed mk hn
  obtain ⟨U, Ls, c0, s0⟩ := A
  dsimp only [Pt.U, Pt.locs, Pt.cells, Pt.slots] at h1 h3 h4 h5 X hn hPc hmY ⊢
  obtain ⟨kY, hkY, -⟩ := className_of_methodNamed hn
  have hinitY : kY.init = .initialized := Cond.initialized_spec (findClass_of_methodNamed hn) hkY h3
  have hat : At U g.method c below := by rw [hg]; exact X.here
  have hlocals9 : W9 + (maxL + 11) + (headSpec ws (hp_rm F h L)).room.locals ≤ R.locals := hlocals
  have happ : (headSpec ws (hp_rm F h L)).appliesLoose y e.platform (U.calling g mk a) = true :=
    Spec.appliesLoose_calling (g := g) hat hdg hn hkY hinitY
      (X.room_calling (g := g) (R' := (headSpec ws (hp_rm F h L)).room) hsize hmY hcY hframes (by rw [hlY]; omega) h4 h5) h1
  obtain ⟨mid, hmid⟩ := hat.above
  have hfr : (U.setTop g).frames = (.java g :: mid) ++ below := by rw [State.frames_setTop' g hat.top, hmid]; rfl
  obtain ⟨oc, s₂, hsteps, -, hend, hq⟩ := Steps.callFree hM p X.admits X.cas X.clock (acts := []) hfr happ hPc trivial
  obtain ⟨ho, q1, q2, q3, q4, q6, hW₂, L1, hsm, hL1⟩ := hq
  rw [State.frames_setTop' g hat.top] at hend
  obtain ⟨g₀, hg0⟩ := Option.isSome_iff_exists.mp hat.top
  obtain ⟨r, hr⟩ := State.topJava?_eq_some.mp hg0
  have hr' : (({ U with heap := s₂.heap, slotsUsed := s₂.slotsUsed } : State).setVm s₂.vm).frames = .java g₀ :: r := hr
  obtain ⟨e2, p2, p3, p4, p5, p6⟩ := id hsm
  have e9 : ({ s₂ with vm := (U.calling g mk a).vm } : State) = ({ (U.calling g mk a).setFrames s₂.frames with heap := s₂.heap, slotsUsed := s₂.slotsUsed } : State) := e2
  have e3 : s₂ = ({ (U.calling g mk a).setFrames s₂.frames with heap := s₂.heap, slotsUsed := s₂.slotsUsed } : State).setVm s₂.vm := (show s₂ = ({ s₂ with vm := (U.calling g mk a).vm } : State).setVm s₂.vm from rfl).trans (congrArg (fun z : State => z.setVm s₂.vm) e9)
  have hW' : U.WarmedH s₂.vm := hW₂
  have hsame : U.sameButNew ({ U with heap := s₂.heap, slotsUsed := s₂.slotsUsed } : State) L1 (hp_k hf - hp_k h) (hp_s hf - hp_s h) := by
    refine ⟨?_, p2, p3, p4, p5, p6⟩
    obtain ⟨t, ht, -⟩ := State.frames_cons hr
    show ({ U with heap := s₂.heap, slotsUsed := s₂.slotsUsed } : State) = { U.setFrames U.frames with heap := s₂.heap, slotsUsed := s₂.slotsUsed }
    rw [State.setFrames_self ht]
  cases o with
  | inr v =>
    have ho : oc = .returned v := ho
    subst ho
    obtain ⟨c₂, i₂, len₂, hc₂, hd₂, hf₂⟩ := hend
    have hcc : c₂ = c := by
      have h1 : s₂.code? g.method = U.code? g.method := by
        rw [State.code?_eq, State.code?_eq, hW'.alike.method?]
      exact Option.some.inj (hc₂.symm.trans (h1.trans hat.code))
    subst hcc
    have hlen : len₂ = len := by rw [hdg] at hd₂; cases hd₂; rfl
    subst hlen
    have hs₂ : s₂ = (({ U with heap := s₂.heap, slotsUsed := s₂.slotsUsed } : State).setVm s₂.vm).setTop { g with pc := g.pc + len₂, stack := v.toList ++ g.stack } := by
      refine e3.trans ?_
      rw [hf₂, State.calling_eq hat.top, State.setFrames_setFrames, State.setTop_of_frames _ hr', hr]
      rfl
    subst hg
    refine Or.inl ⟨v, ⟨(({ U with heap := s₂.heap, slotsUsed := s₂.slotsUsed } : State).setVm s₂.vm), Ls ++ L1, c0 + (hp_k hf - hp_k h), s0 + (hp_s hf - hp_s h)⟩,
      ⟨X.admits, X.cas, X.clock, X.frames, X.room, X.hears, X.method, X.code, (X.here.setHeapUsed s₂.heap s₂.slotsUsed).setVm hW'.alike, X.tail, State.WarmedH.trans X.warmed hW', X.limits, X.bytes, X.same.trans (hsame.setVm s.vm)⟩,
      ⟨rfl, U.calling g mk a, s₂, L1, rfl, rfl, rfl, q1, q2, q3, q4, q6, rfl, hL1, rfl, rfl⟩, ?_⟩
    show Steps p.tables e below _ ((({ U with heap := s₂.heap, slotsUsed := s₂.slotsUsed } : State).setVm s₂.vm).setTop { g with pc := g.pc + len₂, stack := v.toList ++ g.stack })
    rw [← hs₂]
    exact hsteps
  | inl q =>
    have ho : oc = .threw q := ho
    subst ho
    have hf₂ : s₂.frames = .throwing q :: .java g :: U.frames.tail := hend
    have hs₂ : s₂ = ((({ U with heap := s₂.heap, slotsUsed := s₂.slotsUsed } : State).setVm s₂.vm).setTop g).pushFrame (.throwing q) := by
      refine e3.trans ?_
      rw [hf₂, State.calling_eq hat.top, State.setFrames_setFrames, State.pushFrame, State.frames_setTop _ hr', State.setTop_of_frames _ hr', State.setFrames_setFrames, hr]
      rfl
    subst hg
    refine Or.inr ⟨q, ⟨(({ U with heap := s₂.heap, slotsUsed := s₂.slotsUsed } : State).setVm s₂.vm), Ls ++ L1, c0 + (hp_k hf - hp_k h), s0 + (hp_s hf - hp_s h)⟩,
      ⟨X.admits, X.cas, X.clock, X.frames, X.room, X.hears, X.method, X.code, (X.here.setHeapUsed s₂.heap s₂.slotsUsed).setVm hW'.alike, X.tail, State.WarmedH.trans X.warmed hW', X.limits, X.bytes, X.same.trans (hsame.setVm s.vm)⟩,
      ⟨rfl, U.calling g mk a, s₂, L1, rfl, rfl, rfl, q1, q2, q3, q4, q6, rfl, hL1, rfl, rfl⟩, ?_⟩
    show Steps p.tables e below _ (((({ U with heap := s₂.heap, slotsUsed := s₂.slotsUsed } : State).setVm s₂.vm).setTop g).pushFrame (.throwing q))
    rw [← hs₂]
    exact hsteps
