/-! STAGE 0f: rows of the instructions that look at the heap. -/
set_option maxRecDepth 100000
/-- pure words: fields -/
def rdV (h : HP) (r : Option Nat) (cs : List Nat) (k : Nat) : Option hp_V := r.bind fun a => match h.1 a with
  | some (_, .inl (c, fs)) => if c ∈ cs then fs[k]? else none
  | _ => none
def rdI (h : HP) (r : Option Nat) (cs : List Nat) (k : Nat) : Option Int := match rdV h r cs k with
  | some (.inl z) => some z
  | _ => none
def rdR (h : HP) (r : Option Nat) (cs : List Nat) (k : Nat) : Option (Option Nat) := match rdV h r cs k with
  | some (.inr (.inl z)) => some z
  | _ => none
def rdF (h : HP) (r : Option Nat) (cs : List Nat) (k : Nat) : Option UInt32 := match rdV h r cs k with
  | some (.inr (.inr z)) => some z
  | _ => none
def wrV (h : HP) (r : Option Nat) (cs : List Nat) (k : Nat) (v : hp_V) : Option HP := r.bind fun a => match h.1 a with
  | some (t, .inl (c, fs)) => if c ∈ cs ∧ k < fs.length ∧ t ≠ 1 then some (hp_set h a (t, .inl (c, fs.set k v))) else none
  | _ => none
def wrI (h : HP) (r : Option Nat) (cs : List Nat) (k : Nat) (z : Int) : Option HP := wrV h r cs k (.inl z)
def wrZ (h : HP) (r : Option Nat) (cs : List Nat) (k : Nat) (z : Int) : Option HP := if z = 0 ∨ z = 1 then wrV h r cs k (.inl z) else none
def wrB (h : HP) (r : Option Nat) (cs : List Nat) (k : Nat) (z : Int) : Option HP := if -128 ≤ z ∧ z ≤ 127 then wrV h r cs k (.inl z) else none
def wrR (h : HP) (r : Option Nat) (cs : List Nat) (k : Nat) (z : Option Nat) : Option HP := wrV h r cs k (.inr (.inl z))
def wrF (h : HP) (r : Option Nat) (cs : List Nat) (k : Nat) (z : UInt32) : Option HP := wrV h r cs k (.inr (.inr z))
/-- arrays -/
def arr (h : HP) (r : Option Nat) : Option (Nat × Nat × FieldType × Nat × hp_Ar) := r.bind fun a => match h.1 a with
  | some (t, .inr (ty, n, x)) => some (a, t, ty, n, x)
  | _ => none
def alen (h : HP) (r : Option Nat) : Option Int := match arr h r with
  | some (_, _, _, n, _) => some n
  | none => none
def aldI (h : HP) (ty : FieldType) (r : Option Nat) (i : Int) : Option Int := match arr h r with
  | some (_, _, ty', n, .inl f) => if ty' = ty ∧ 0 ≤ i ∧ i < n ∧ n ≤ 2147483647 then some (f i) else none
  | _ => none
def aldJ (h : HP) (r : Option Nat) (i : Int) : Option Int64 := match arr h r with
  | some (_, _, ty', n, .inr (.inl f)) => if ty' = .long ∧ 0 ≤ i ∧ i < n ∧ n ≤ 2147483647 then some (f i) else none
  | _ => none
def aldR (h : HP) (C : String) (r : Option Nat) (i : Int) : Option (Option Nat) := match arr h r with
  | some (_, _, ty', n, .inr (.inr f)) => if ty' = .object C ∧ 0 ≤ i ∧ i < n ∧ n ≤ 2147483647 then some (f i) else none
  | _ => none
def upI {α : Type} (f : Int → α) (i : Int) (v : α) : Int → α := fun j => if j = i then v else f j
def astI (h : HP) (ty : FieldType) (r : Option Nat) (i v : Int) : Option HP := match arr h r with
  | some (a, t, ty', n, .inl f) => if ty' = ty ∧ 0 ≤ i ∧ i < n ∧ n ≤ 2147483647 ∧ t ≠ 1 then some (hp_set h a (t, .inr (ty', n, .inl (upI f i v)))) else none
  | _ => none
def astZ (h : HP) (r : Option Nat) (i v : Int) : Option HP := if v = 0 ∨ v = 1 then astI h .boolean r i v else none
def astB (h : HP) (r : Option Nat) (i v : Int) : Option HP := if -128 ≤ v ∧ v ≤ 127 then astI h .byte r i v else none
def astJ (h : HP) (r : Option Nat) (i : Int) (v : Int64) : Option HP := match arr h r with
  | some (a, t, ty', n, .inr (.inl f)) => if ty' = .long ∧ 0 ≤ i ∧ i < n ∧ n ≤ 2147483647 ∧ t ≠ 1 then some (hp_set h a (t, .inr (ty', n, .inr (.inl (upI f i v))))) else none
  | _ => none
def clsOf (h : HP) (b : Nat) : Option Nat := match h.1 b with
  | some (_, .inl (c, _)) => some c
  | _ => none
def okR (h : HP) (cs : List Nat) (v : Option Nat) : Bool := match v with
  | none => true
  | some b => match clsOf h b with
    | some c => decide (c ∈ cs)
    | none => false
def astR (h : HP) (C : String) (cs : List Nat) (r : Option Nat) (i : Int) (v : Option Nat) : Option HP := match arr h r with
  | some (a, t, ty', n, .inr (.inr f)) => if ty' = .object C ∧ 0 ≤ i ∧ i < n ∧ n ≤ 2147483647 ∧ okR h cs v = true ∧ t ≠ 1 then some (hp_set h a (t, .inr (ty', n, .inr (.inr (upI f i v))))) else none
  | _ => none
/-- new cells -/
def hp_new (h : HP) (t : Nat) (c : hp_C) (n : Nat) : Option (Option Nat × HP) := if hp_k h + 1 ≤ 1200144 ∧ hp_s h + n ≤ 5495482 then some (some (hp_n h), hp_add h (t, c) n) else none
def nwO (h : HP) (t ci : Nat) (fs : List hp_V) (n : Nat) : Option (Option Nat × HP) := hp_new h t (.inl (ci, fs)) n
def nwI (h : HP) (t : Nat) (ty : FieldType) (n : Int) : Option (Option Nat × HP) := if 0 ≤ n ∧ n ≤ 1000000 then hp_new h t (.inr (ty, n.toNat, .inl (fun _ => 0))) n.toNat else none
def nwJ (h : HP) (t : Nat) (n : Int) : Option (Option Nat × HP) := if 0 ≤ n ∧ n ≤ 1000000 then hp_new h t (.inr (.long, n.toNat, .inr (.inl (fun _ => 0)))) n.toNat else none
def nwR (h : HP) (t : Nat) (C : String) (n : Int) : Option (Option Nat × HP) := if 0 ≤ n ∧ n ≤ 1000000 then hp_new h t (.inr (.object C, n.toNat, .inr (.inr (fun _ => none)))) n.toNat else none
/-- the receiver: its address and class -/
def rcv (h : HP) (r : Option Nat) (cs : List Nat) : Option Nat := r.bind fun b => match clsOf h b with
  | some c => if c ∈ cs then some b else none
  | none => none
def ins (h : HP) (r : Option Nat) (yes no : List Nat) : Option Int := match r with
  | none => some 0
  | some b => match clsOf h b with
    | some c => if c ∈ yes then some 1 else if c ∈ no then some 0 else none
    | none => none
theorem clsOf_some {h : HP} {b c : Nat} (e : clsOf h b = some c) : ∃ t fs, h.1 b = some (t, .inl (c, fs)) := by
  unfold clsOf at e
  split at e
  · rename_i t c2 fs e2
    cases e
    exact ⟨t, fs, e2⟩
  · cases e
theorem rdV_some {h : HP} {r : Option Nat} {cs : List Nat} {k : Nat} {v : hp_V} (e : rdV h r cs k = some v) : ∃ a t c fs, r = some a ∧ h.1 a = some (t, .inl (c, fs)) ∧ c ∈ cs ∧ fs[k]? = some v := by
  unfold rdV at e
  obtain ⟨a, ha, e⟩ := Option.bind_eq_some_iff.mp e
  split at e
  · rename_i t c fs e2
    by_cases g : c ∈ cs
    · rw [if_pos g] at e; exact ⟨a, t, c, fs, ha, e2, g, e⟩
    · rw [if_neg g] at e; cases e
  · cases e
theorem wrV_some {h h1 : HP} {r : Option Nat} {cs : List Nat} {k : Nat} {v : hp_V} (e : wrV h r cs k v = some h1) : ∃ a t c fs, r = some a ∧ h.1 a = some (t, .inl (c, fs)) ∧ c ∈ cs ∧ k < fs.length ∧ t ≠ 1 ∧ h1 = hp_set h a (t, .inl (c, fs.set k v)) := by
  unfold wrV at e
  obtain ⟨a, ha, e⟩ := Option.bind_eq_some_iff.mp e
  split at e
  · rename_i t c fs e2
    by_cases g : c ∈ cs ∧ k < fs.length ∧ t ≠ 1
    · rw [if_pos g] at e; cases e; exact ⟨a, t, c, fs, ha, e2, g.1, g.2.1, g.2.2, rfl⟩
    · rw [if_neg g] at e; cases e
  · cases e
theorem arr_some {h : HP} {r : Option Nat} {a t n : Nat} {ty : FieldType} {x : hp_Ar} (e : arr h r = some (a, t, ty, n, x)) : r = some a ∧ h.1 a = some (t, .inr (ty, n, x)) := by
  unfold arr at e
  obtain ⟨b, hb, e⟩ := Option.bind_eq_some_iff.mp e
  split at e
  · rename_i t2 ty2 n2 x2 e2
    cases e
    exact ⟨hb, e2⟩
  · cases e
/-- fields apart: by name, or finals of two classes -/
def hp_ap (T : u_T) (N : Nat) : Prop := ∀ a, a < N → ∀ b, b < N → a ≠ b → (T a).2.1 ≠ (T b).2.1 ∨ ((T a).2.2.2 = true ∧ (T b).2.2.2 = true ∧ (T a).1 ≠ (T b).1)
theorem hp_ap.of {T : u_T} {N : Nat} (h : ∀ a, a < N → ∀ b, b < N → a ≠ b → (T a).2.1 ≠ (T b).2.1) : hp_ap T N := fun a ha b hb n => Or.inl (h a ha b hb n)
theorem zz_nameOf {vm : Vm} {name : String} {c : ClassId} {k : Class} (h : vm.findClass name = some c) (hk : vm.classes[c]? = some k) : k.name = name := by
  obtain ⟨hlt, hp, _⟩ := Array.findIdx?_eq_some_iff_getElem.mp h
  have hk' : vm.classes[c] = k := by rw [Array.getElem?_eq_getElem hlt] at hk; exact Option.some.inj hk
  rw [hk'] at hp
  simp at hp
  exact hp.1.1.1
theorem zz_apart {D : va_G} {cl : List vw_C} {tys : List (ClassId × FieldType)} {s : State} {args : Array Value} {C : String} {T : u_T} {N ci : Nat} {Ts : List Cond} (hts : ∀ w ∈ Ts, w.before args s = true) (hin : ∀ w ∈ u_ws C T N, w ∈ Ts) (ty : Nat → FieldType) (hty : ∀ k, k < N → parseFieldDescriptor (T k).2.2.1 = some (ty k)) (hnm : hp_ap T N) (hK : va_K D cl tys s) (hc : cl[ci]? = some (C, T, N)) : ∀ x y, x < N → y < N → x ≠ y → (D.2 ci) x ≠ (D.2 ci) y := by
  intro x y hx hy hne
  obtain ⟨hS, -⟩ := hK.1 ci _ hc
  obtain ⟨_, _, _, fa, hia, ea⟩ := hS x hx
  obtain ⟨_, _, _, fb, hib, eb⟩ := hS y hy
  rcases hnm x hx y hy hne with h | ⟨f1, f2, h⟩
  · rw [← ea, ← eb]
    refine u_apart (u_lays hts hin hx) (u_lays hts hin hy) hia hib ?_
    rw [(State.fieldFound?_type hia (hty x hx)).1, (State.fieldFound?_type hib (hty y hy)).1]
    exact h
  · have l1 := hts _ (hin _ (u_in_lay hx))
    have l2 := hts _ (hin _ (u_in_lay hy))
    unfold u_lay at l1 l2
    rw [if_pos f1] at l1
    rw [if_pos f2] at l2
    obtain ⟨c, k, c1, k1, i1, g1, a1, a2, a3, -, -, -, a4, -, d, a5, a6, -⟩ := Cond.laysFinal_spec l1
    obtain ⟨c', k', c2, k2, i2, g2, b1, b2, b3, -, -, -, b4, -, d', b5, b6, -⟩ := Cond.laysFinal_spec l2
    cases a1.symm.trans b1
    cases hia.symm.trans a3
    cases hib.symm.trans b3
    rw [← ea, ← eb]
    intro e
    rw [e] at a5
    cases a5.symm.trans b5
    have n1 := zz_nameOf a4 (State.fieldFound?_class a3)
    have n2 := zz_nameOf b4 (State.fieldFound?_class b3)
    exact h (n1.symm.trans (a6.symm.trans (b6.trans n2)))
/-- what the tables say of a field: its class's place, its own, the word by which the code names it -/
def hp_fl (own : String) (ix ci k : Nat) (fin : Bool) (d : String) : Prop :=
  ∃ (C : String) (T : u_T) (N : Nat) (ref : String) (ty : Nat → FieldType), hp_cl[ci]? = some (C, T, N) ∧ k < N ∧ (∀ w ∈ u_ws C T N, w ∈ lw_all) ∧ (∀ j, j < N → parseFieldDescriptor (T j).2.2.1 = some (ty j)) ∧ hp_ap T N ∧
    (Cond.fieldLink own ix ref (T k).2.1 (T k).2.2.1 ∈ lw_all ∨ ∃ host, Cond.fieldLinkNest own ix ref (T k).2.1 (T k).2.2.1 host ∈ lw_tbl) ∧ (ref = (T k).1 ∨ Cond.sameField ref (T k).1 (T k).2.1 (T k).2.2.1 ∈ lw_all) ∧ (T k).2.2.2 = fin ∧ (T k).2.2.1 = d
/-- the class itself declares the field -/
def hp_ow (own : String) (ci k : Nat) : Prop := ∃ q : vw_C, hp_cl[ci]? = some q ∧ (q.2.1 k).1 = own
theorem hp_fl.of {own : String} {ix ci k : Nat} {C : String} {T : u_T} {N : Nat} (ty : Nat → FieldType) (h1 : hp_cl[ci]? = some (C, T, N)) (h2 : k < N) (h3 : ∀ w ∈ u_ws C T N, w ∈ lw_all) (h4 : ∀ j, j < N → parseFieldDescriptor (T j).2.2.1 = some (ty j)) (h5 : hp_ap T N)
    (h6 : Cond.fieldLink own ix (T k).1 (T k).2.1 (T k).2.2.1 ∈ lw_all) {fin : Bool} {d : String} (h7 : (T k).2.2.2 = fin) (h9 : (T k).2.2.1 = d) : hp_fl own ix ci k fin d := ⟨C, T, N, _, ty, h1, h2, h3, h4, h5, Or.inl h6, Or.inl rfl, h7, h9⟩
theorem hp_fl.ofN {own host : String} {ix ci k : Nat} {C : String} {T : u_T} {N : Nat} (ty : Nat → FieldType) (h1 : hp_cl[ci]? = some (C, T, N)) (h2 : k < N) (h3 : ∀ w ∈ u_ws C T N, w ∈ lw_all) (h4 : ∀ j, j < N → parseFieldDescriptor (T j).2.2.1 = some (ty j)) (h5 : hp_ap T N)
    (h6 : Cond.fieldLinkNest own ix (T k).1 (T k).2.1 (T k).2.2.1 host ∈ lw_tbl) {fin : Bool} {d : String} (h7 : (T k).2.2.2 = fin) (h9 : (T k).2.2.1 = d) : hp_fl own ix ci k fin d := ⟨C, T, N, _, ty, h1, h2, h3, h4, h5, Or.inr ⟨host, h6⟩, Or.inl rfl, h7, h9⟩
theorem hp_fl.ofS {own ref : String} {ix ci k : Nat} {C : String} {T : u_T} {N : Nat} (ty : Nat → FieldType) (h1 : hp_cl[ci]? = some (C, T, N)) (h2 : k < N) (h3 : ∀ w ∈ u_ws C T N, w ∈ lw_all) (h4 : ∀ j, j < N → parseFieldDescriptor (T j).2.2.1 = some (ty j)) (h5 : hp_ap T N)
    (h6 : Cond.fieldLink own ix ref (T k).2.1 (T k).2.2.1 ∈ lw_all) (hs : Cond.sameField ref (T k).1 (T k).2.1 (T k).2.2.1 ∈ lw_all) {fin : Bool} {d : String} (h7 : (T k).2.2.2 = fin) (h9 : (T k).2.2.1 = d) : hp_fl own ix ci k fin d := ⟨C, T, N, _, ty, h1, h2, h3, h4, h5, Or.inl h6, Or.inr hs, h7, h9⟩
section HROWS
variable {M : hp_M} {G : va_G} {h0 h : HP} {own nm : String} {cc : ByteArray} {nL F L : Nat} {ret : Option FieldType} {tb : List ExceptionTableEntry}
variable {ρ : Type} {inj : ρ → hp_O} {lv : List (Nat × LV)} {pc : Nat} {T : hp_O → HP → State → Prop} {st : List LV} {o : Option (ρ × HP)}
theorem zz_getf (X : hp_X M G h0 own nm cc nL ret tb F L) {ix k a t ci : Nat} {fin : Bool} {dd : String} {fs : List hp_V} {v : hp_V} (hf : hp_fl own ix ci k fin dd) (ha : h.1 a = some (t, .inl (ci, fs))) (hv : fs[k]? = some v) (d : decode cc pc = .ok (.getfield ix, 3)) {H : Heap} {locs : List Loc} {cells slots : Nat} (I : hp_I M G h0 h H locs cells slots) {ls : Array Slot} {rest : List Value} {Q : State → Prop}
    (kk : z_W M H locs cells slots Q (F0 (z_m M) (pc + 3) ls (hp_val v :: rest))) : z_W M H locs cells slots Q (F0 (z_m M) pc ls (.ref a :: rest)) := by
  obtain ⟨C, T9, N, ref, ty, h1, h2, h3, h4, h5, h6, h7, h8, h10⟩ := hf
  obtain ⟨hat, -⟩ := I.1.2.1 a t _ ha
  have hP : va_P G hp_cl [(a, .inr (ci, fs.map hp_val))] H := fun j q hj => by
    cases j with
    | zero => cases hj; exact hat
    | succ j => cases hj
  have hsame : ∀ x, (z_s M).fieldFound? (T9 k).1 (T9 k).2.1 (T9 k).2.2.1 = some x → (z_s M).fieldFound? ref (T9 k).2.1 (T9 k).2.2.1 = some x := by
    rcases h7 with e | e
    · rw [e]; exact fun x h => h
    · exact u_same (X.1.2.2.2.2 _ e)
  have hv' : (fs.map hp_val)[k]? = some (hp_val v) := by rw [List.getElem?_map, hv]; rfl
  rcases h6 with h6 | ⟨host, h6⟩
  · exact va_get (ci := ci) X.1.1 X.1.2.1 X.1.2.2.2.2 h3 X.1.2.2.2.1 X.2.1.1 hP 0 rfl h1 k h2 (X.1.2.2.2.2 _ h6) hsame hv' d kk
  · exact va_getN (ci := ci) X.1.1 X.1.2.1 X.1.2.2.2.2 h3 X.1.2.2.2.1 X.2.1.1 hP 0 rfl h1 k h2 (va_Nw.use rfl (X.2.1.2.1 _ h6 rfl)) hsame hv' d kk
theorem vv_getI (X : hp_X M G h0 own nm cc nL ret tb F L) {ix k : Nat} {cs : List Nat} {fin : Bool} {dd : String} {r : Option Nat} {K : Int → Option (ρ × HP)} (hf : ∀ ci ∈ cs, hp_fl own ix ci k fin dd) (d : decode cc pc = .ok (.getfield ix, 3)) (k9 : ∀ v, vv M G h0 nL T inj h (pc + 3) lv (LI v :: st) (K v)) : vv M G h0 nL T inj h pc lv (LR r :: st) ((rdI h r cs k).bind K) := by
  intro r9 hfi ho H locs ls cells slots I hls
  obtain ⟨v, hv, ho2⟩ := Option.bind_eq_some_iff.mp ho
  unfold rdI at hv
  split at hv
  · rename_i z e
    cases hv
    obtain ⟨a, t, c, fs, rfl, e2, hc, e3⟩ := rdV_some e
    exact zz_getf X (hf c hc) e2 e3 d I (k9 _ r9 hfi ho2 H locs ls cells slots I hls)
  · cases hv
theorem vv_getR (X : hp_X M G h0 own nm cc nL ret tb F L) {ix k : Nat} {cs : List Nat} {fin : Bool} {dd : String} {r : Option Nat} {K : Option Nat → Option (ρ × HP)} (hf : ∀ ci ∈ cs, hp_fl own ix ci k fin dd) (d : decode cc pc = .ok (.getfield ix, 3)) (k9 : ∀ v, vv M G h0 nL T inj h (pc + 3) lv (LR v :: st) (K v)) : vv M G h0 nL T inj h pc lv (LR r :: st) ((rdR h r cs k).bind K) := by
  intro r9 hfi ho H locs ls cells slots I hls
  obtain ⟨v, hv, ho2⟩ := Option.bind_eq_some_iff.mp ho
  unfold rdR at hv
  split at hv
  · rename_i z e
    cases hv
    obtain ⟨a, t, c, fs, rfl, e2, hc, e3⟩ := rdV_some e
    exact zz_getf X (hf c hc) e2 e3 d I (k9 _ r9 hfi ho2 H locs ls cells slots I hls)
  · cases hv
theorem vv_getF (X : hp_X M G h0 own nm cc nL ret tb F L) {ix k : Nat} {cs : List Nat} {fin : Bool} {dd : String} {r : Option Nat} {K : UInt32 → Option (ρ × HP)} (hf : ∀ ci ∈ cs, hp_fl own ix ci k fin dd) (d : decode cc pc = .ok (.getfield ix, 3)) (k9 : ∀ v, vv M G h0 nL T inj h (pc + 3) lv (LF v :: st) (K v)) : vv M G h0 nL T inj h pc lv (LR r :: st) ((rdF h r cs k).bind K) := by
  intro r9 hfi ho H locs ls cells slots I hls
  obtain ⟨v, hv, ho2⟩ := Option.bind_eq_some_iff.mp ho
  unfold rdF at hv
  split at hv
  · rename_i z e
    cases hv
    obtain ⟨a, t, c, fs, rfl, e2, hc, e3⟩ := rdV_some e
    exact zz_getf X (hf c hc) e2 e3 d I (k9 _ r9 hfi ho2 H locs ls cells slots I hls)
  · cases hv
theorem zz_putf (X : hp_X M G h0 own nm cc nL ret tb F L) {ix k a t ci : Nat} {fin : Bool} {dd : String} {fs : List hp_V} {v : hp_V} {ty9 : FieldType} (hf : hp_fl own ix ci k fin dd) (hin : fin = true → nm = "<init>") (hw9 : fin = true → hp_ow own ci k) (ha : h.1 a = some (t, .inl (ci, fs))) (hk : k < fs.length) (n1 : t ≠ 1) (hd : parseFieldDescriptor dd = some ty9) (hn : narrow ty9 (hp_val v) = hp_val v) (hfit : fits ty9 (hp_val v) = true) (d : decode cc pc = .ok (.putfield ix, 3)) {H : Heap} {locs : List Loc} {cells slots : Nat} (I : hp_I M G h0 h H locs cells slots) {ls : Array Slot} {rest : List Value} {Q : State → Prop}
    (kk : ∀ (H1 : Heap) (locs1 : List Loc), hp_I M G h0 (hp_set h a (t, .inl (ci, fs.set k v))) H1 locs1 cells slots → z_W M H1 locs1 cells slots Q (F0 (z_m M) (pc + 3) ls rest)) : z_W M H locs cells slots Q (F0 (z_m M) pc ls (hp_val v :: .ref a :: rest)) := by
  obtain ⟨C, T9, N, ref, ty, h1, h2, h3, h4, h5, h6, h7, h8, h10⟩ := hf
  obtain ⟨⟨r, hr, cell, q1, q2, q3, q4⟩, r2, hr2, hlen⟩ := I.1.2.1 a t _ ha
  have er : r = (C, T9, N) := Option.some.inj (hr.symm.trans h1)
  subst er
  cases Option.some.inj (hr2.symm.trans h1)
  have hts := X.1.2.2.2.2
  have hown := X.1.2.2.2.1
  have hKK := X.2.1.1
  have hap := zz_apart hts h3 ty h4 h5 hKK h1
  obtain ⟨hS, hfc, kC, hkC, hkind⟩ := hKK.1 ci _ h1
  obtain ⟨cf, kf, fi, f, hi, hsl⟩ := hS k h2
  have hlay := hts _ (h3 _ (u_in_lay h2))
  unfold u_lay at hlay
  have hst := (u_facts hfc hkC (u_lays hts h3 h2) hi).1
  have hsame : ∀ x, (z_s M).fieldFound? (T9 k).1 (T9 k).2.1 (T9 k).2.2.1 = some x → (z_s M).fieldFound? ref (T9 k).2.1 (T9 k).2.2.1 = some x := by
    rcases h7 with e | e
    · rw [e]; exact fun x h => h
    · exact u_same (hts _ e)
  have hdd : parseFieldDescriptor (T9 k).2.2.1 = some ty9 := by rw [h10]; exact hd
  have fin' : ∀ (H' : Heap), H'[a]? = some (cell.setSlot f.slot (hp_val v)) → H'.size = H.size → (∀ q, q ≠ a → H'[q]? = H[q]?) → z_W M H' (locs ++ [⟨a, f.slot⟩]) cells slots Q (F0 (z_m M) (pc + 3) ls rest) := by
    intro H' e1 e2 e3
    refine kk H' _ (I.set (L := [⟨a, f.slot⟩]) ha n1 n1 ?_ e2 e3 (fun l hl => by rw [List.mem_singleton.mp hl]))
    rw [hsl] at e1
    refine ⟨⟨_, h1, ?_⟩, _, h1, by rw [List.length_set]; exact hlen⟩
    show t_OB a (G.1 ci) N (G.2 ci) H' (vp_V ((fs.set k v).map hp_val))
    rw [List.map_set]
    exact t_OB.to (V := updV (vp_V (fs.map hp_val)) k (hp_val v)) ⟨_, e1, q2, q3, t_set q4 hap h2 (hp_val v)⟩ (fun j _ => vp_updV_set (by rw [List.length_map]; exact hk) (hp_val v) j)
  cases fin with
  | false =>
    rw [if_neg (by rw [h8]; decide)] at hlay
    have h6' := u_store hfc hkC hkind hlay hi hdd hn hfit
    rcases h6 with h6 | ⟨host, h6⟩
    · exact W.putK X.1.1 X.1.2.1 (f := f) ⟨hown, hts _ h6, ⟨_, _, _, hsame _ hi⟩, hst⟩ (by rw [q2]; exact h6') q1 q3 (by rw [hsl]; exact k2_hasslot (q4 k h2)) rfl rfl d fin'
    · exact va_WputK X.1.1 X.1.2.1 (f := f) hown (va_Nw.use rfl (X.2.1.2.1 _ h6 rfl)) (hsame _ hi) hst (by rw [q2]; exact h6') q1 q3 (by rw [hsl]; exact k2_hasslot (q4 k h2)) rfl rfl d fin'
  | true =>
    rw [if_pos h8] at hlay
    have hcf : (z_m M).cls = cf := by
      obtain ⟨_, _, c', _, _, _, -, -, hf', -, -, -, hown2, -⟩ := Cond.laysFinal_spec hlay
      have e1 : c' = cf := by have := hi.symm.trans hf'; simp at this; exact this.1.symm
      obtain ⟨q9, e8, e9⟩ := hw9 rfl
      cases Option.some.inj (e8.symm.trans h1)
      rw [e9] at hown2
      rw [← e1]; exact Option.some.inj (hown.symm.trans hown2)
    have h6' := u_fits hfc hkC hkind (Or.inr hlay) hi hdd hn hfit
    have hnm : (z_t M).name = "<init>" := by rw [X.2.2.2.2.2.2.1]; exact hin rfl
    rcases h6 with h6 | ⟨host, h6⟩
    · exact W.putFinK X.1.1 X.1.2.1 hown (hts _ h6) (hsame _ hi) hst hcf hnm (by rw [q2]; exact h6') q1 q3 (by rw [hsl]; exact k2_hasslot (q4 k h2)) rfl rfl d fin'
    · refine va_Wputf X.1.1 X.1.2.1 hown (va_Nw.use rfl (X.2.1.2.1 _ h6 rfl)) (hsame _ hi) hst (Or.inr ⟨hcf, hnm⟩) q1 (by rw [q3]; exact fun h => by cases h) (by rw [hsl]; exact k2_hasslot (q4 k h2)) h6'.1 (by rw [q3, q2]; exact h6'.2) rfl rfl d ?_
      have hlt : a < H.size := (Array.getElem?_eq_some_iff.mp q1).1
      exact fin' _ (by simp [Array.getElem?_setIfInBounds, hlt]) (by simp) (fun q hq => by simp [Array.getElem?_setIfInBounds, Ne.symm hq])
theorem vv_putV (X : hp_X M G h0 own nm cc nL ret tb F L) {ix k : Nat} {cs : List Nat} {fin : Bool} {dd : String} {r : Option Nat} {v : hp_V} {w : LV} {K : HP → Option (ρ × HP)} {ty9 : FieldType} (hw : lvV w = hp_val v) (hf : ∀ ci ∈ cs, hp_fl own ix ci k fin dd) (hin : fin = true → nm = "<init>") (hw9 : fin = true → ∀ ci ∈ cs, hp_ow own ci k) (hd : parseFieldDescriptor dd = some ty9) (hn : narrow ty9 (hp_val v) = hp_val v) (hfit : fits ty9 (hp_val v) = true) (d : decode cc pc = .ok (.putfield ix, 3)) (k9 : ∀ h, vv M G h0 nL T inj h (pc + 3) lv st (K h)) : vv M G h0 nL T inj h pc lv (w :: LR r :: st) ((wrV h r cs k v).bind K) := by
  intro r9 hfi ho H locs ls cells slots I hls
  obtain ⟨h1, hv, ho⟩ := Option.bind_eq_some_iff.mp ho
  obtain ⟨a, t, c, fs, rfl, e2, hc, hk, n1, rfl⟩ := wrV_some hv
  have k8 := zz_putf (Q := T (inj r9) hfi) (ls := ls) (rest := st.map lvV) X (hf c hc) hin (fun z => hw9 z c hc) e2 hk n1 hd hn hfit d I (fun H1 l1 I1 => k9 _ r9 hfi ho H1 l1 ls cells slots I1 hls)
  rw [← hw] at k8
  exact k8
theorem vv_putI (X : hp_X M G h0 own nm cc nL ret tb F L) {ix k : Nat} {cs : List Nat} {fin : Bool} {r : Option Nat} {z : Int} {K : HP → Option (ρ × HP)} (hf : ∀ ci ∈ cs, hp_fl own ix ci k fin "I") (hin : fin = true → nm = "<init>") (hw9 : fin = true → ∀ ci ∈ cs, hp_ow own ci k) (d : decode cc pc = .ok (.putfield ix, 3)) (k9 : ∀ h, vv M G h0 nL T inj h (pc + 3) lv st (K h)) : vv M G h0 nL T inj h pc lv (LI z :: LR r :: st) ((wrI h r cs k z).bind K) :=
  vv_putV (ty9 := .int) X rfl hf hin hw9 (by decide +kernel) rfl rfl d k9
theorem vv_putZ (X : hp_X M G h0 own nm cc nL ret tb F L) {ix k : Nat} {cs : List Nat} {fin : Bool} {r : Option Nat} {z : Int} {K : HP → Option (ρ × HP)} (hf : ∀ ci ∈ cs, hp_fl own ix ci k fin "Z") (hin : fin = true → nm = "<init>") (hw9 : fin = true → ∀ ci ∈ cs, hp_ow own ci k) (d : decode cc pc = .ok (.putfield ix, 3)) (k9 : ∀ h, vv M G h0 nL T inj h (pc + 3) lv st (K h)) : vv M G h0 nL T inj h pc lv (LI z :: LR r :: st) ((wrZ h r cs k z).bind K) := by
  unfold wrZ
  by_cases g : z = 0 ∨ z = 1
  · rw [if_pos g]
    have hn : narrow .boolean (hp_val (.inl z)) = hp_val (.inl z) ∧ fits .boolean (hp_val (.inl z)) = true := by
      rcases g with g | g <;> subst g <;> decide +kernel
    exact vv_putV (ty9 := .boolean) X rfl hf hin hw9 (by decide +kernel) hn.1 hn.2 d k9
  · rw [if_neg g]; exact vv_none
theorem zz_byte {z : Int} (g : -128 ≤ z ∧ z ≤ 127) : narrow .byte (.int (iI z)) = .int (iI z) ∧ fits .byte (.int (iI z)) = true := by
  have h1 : (iI z).toInt8.toInt32 = iI z := by
    have h2 : ∀ n : Fin 256, (iI ((n.val : Int) - 128)).toInt8.toInt32 = iI ((n.val : Int) - 128) := by decide +kernel
    have h3 := h2 ⟨(z + 128).toNat, by omega⟩
    rwa [show (((z + 128).toNat : Nat) : Int) - 128 = z by omega] at h3
  rw [← h1]
  exact ⟨pk_nb _, pk_fb _⟩
theorem vv_putB (X : hp_X M G h0 own nm cc nL ret tb F L) {ix k : Nat} {cs : List Nat} {fin : Bool} {r : Option Nat} {z : Int} {K : HP → Option (ρ × HP)} (hf : ∀ ci ∈ cs, hp_fl own ix ci k fin "B") (hin : fin = true → nm = "<init>") (hw9 : fin = true → ∀ ci ∈ cs, hp_ow own ci k) (d : decode cc pc = .ok (.putfield ix, 3)) (k9 : ∀ h, vv M G h0 nL T inj h (pc + 3) lv st (K h)) : vv M G h0 nL T inj h pc lv (LI z :: LR r :: st) ((wrB h r cs k z).bind K) := by
  unfold wrB
  by_cases g : -128 ≤ z ∧ z ≤ 127
  · rw [if_pos g]
    exact vv_putV (ty9 := .byte) X rfl hf hin hw9 (by decide +kernel) (zz_byte g).1 (zz_byte g).2 d k9
  · rw [if_neg g]; exact vv_none
theorem vv_putF (X : hp_X M G h0 own nm cc nL ret tb F L) {ix k : Nat} {cs : List Nat} {fin : Bool} {r : Option Nat} {z : UInt32} {K : HP → Option (ρ × HP)} (hf : ∀ ci ∈ cs, hp_fl own ix ci k fin "F") (hin : fin = true → nm = "<init>") (hw9 : fin = true → ∀ ci ∈ cs, hp_ow own ci k) (d : decode cc pc = .ok (.putfield ix, 3)) (k9 : ∀ h, vv M G h0 nL T inj h (pc + 3) lv st (K h)) : vv M G h0 nL T inj h pc lv (LF z :: LR r :: st) ((wrF h r cs k z).bind K) :=
  vv_putV (ty9 := .float) X rfl hf hin hw9 (by decide +kernel) rfl rfl d k9
theorem vv_putR (X : hp_X M G h0 own nm cc nL ret tb F L) {ix k : Nat} {cs : List Nat} {fin : Bool} {dd : String} {r : Option Nat} {z : Option Nat} {K : HP → Option (ρ × HP)} {ty9 : FieldType} (hf : ∀ ci ∈ cs, hp_fl own ix ci k fin dd) (hin : fin = true → nm = "<init>") (hw9 : fin = true → ∀ ci ∈ cs, hp_ow own ci k) (hd : parseFieldDescriptor dd = some ty9) (hr : refKind ty9 = true) (d : decode cc pc = .ok (.putfield ix, 3)) (k9 : ∀ h, vv M G h0 nL T inj h (pc + 3) lv st (K h)) : vv M G h0 nL T inj h pc lv (LR z :: LR r :: st) ((wrR h r cs k z).bind K) := by
  have hn : narrow ty9 (va_rf z) = va_rf z ∧ fits ty9 (va_rf z) = true := by
    cases ty9 <;> first | (cases hr; done) | (cases z <;> exact ⟨rfl, rfl⟩)
  exact vv_putV (ty9 := ty9) X rfl hf hin hw9 hd hn.1 hn.2 d k9
/-- new objects -/
theorem vv_new (X : hp_X M G h0 own nm cc nL ret tb F L) {C : String} {T9 : u_T} {N ci ix t n : Nat} {fs : List hp_V} {K : Option Nat → HP → Option (ρ × HP)} (ty : Nat → FieldType) (hci : hp_cl[ci]? = some (C, T9, N)) (h3 : ∀ w ∈ u_ws C T9 N, w ∈ lw_all) (h4 : ∀ j, j < N → parseFieldDescriptor (T9 j).2.2.1 = some (ty j)) (hcl : Cond.classLink own ix C ∈ lw_all) (hinst : Cond.instantiable C n ∈ lw_all) (hini : Cond.initialized C ∈ lw_all) (hfs : ∀ j, j < N → defaultValue (ty j) = vp_V (fs.map hp_val) j) (hlen : N ≤ fs.length) (d : decode cc pc = .ok (.new ix, 3)) (k9 : ∀ r h, vv M G h0 nL T inj h (pc + 3) lv (LR r :: st) (K r h)) : vv M G h0 nL T inj h pc lv st (hb (nwO h t ci fs n) K) := by
  intro r9 hfi ho H locs ls cells slots I hls
  unfold nwO hp_new at ho
  by_cases g : hp_k h + 1 ≤ 1200144 ∧ hp_s h + n ≤ 5495482
  · rw [if_pos g, hb_some] at ho
    have hts := X.1.2.2.2.2
    have hKn := X.2.1.1.1 ci _ hci
    have hR := X.2.2.2.2.2.2.2.1
    have hsz := I.1.1
    refine W.newcK X.1.1 X.1.2.1 X.1.2.2.2.1 (hts _ hcl) (hts _ hinst) (hts _ hini) rfl d ?_ ?_ hKn.2.1 rfl fun H1 kC hkC e1 z1 o1 => ?_
    · rw [hR]; show cells + 1 ≤ 1200144 - hp_k h0; have := I.2.2.2.1; omega
    · rw [hR]; show slots + n ≤ 5495482 - hp_s h0; have := I.2.2.2.2.1; omega
    · have I1 := I.add (t := t) (c := .inl (ci, fs)) (n := n) (H1 := H1) ⟨⟨_, hci, (u_born ty hts h3 hKn hkC e1 h4).to hfs⟩, _, hci, hlen⟩ z1 o1 g.1 g.2
      have k8 := k9 (some (hp_n h)) _ r9 hfi ho H1 locs ls (cells + 1) (slots + n) I1 hls
      rw [← hsz]
      exact k8
  · rw [if_neg g] at ho; cases ho
/-- new arrays -/
theorem vv_newa (X : hp_X M G h0 own nm cc nL ret tb F L) {atype : ArrayType} {ty : FieldType} {t : Nat} {n : Int} {x : hp_Ar} {K : Option Nat → HP → Option (ρ × HP)} (harr : Cond.arrayClass ty ∈ lw_all) (hty : newarray.typeOf atype = ty) (hb8 : componentBytes ty ≤ 8) (hra : ∀ (cA : ClassId), (z_s M).vm.findClass ("[" ++ ty.toString) = some cA → va_RA (z_s M) cA ty) (hx : ∀ (cA : ClassId) (N : Nat), vp_cell cA (hp_arr N x) = arrV cA N (fun _ => defaultValue ty)) (d : decode cc pc = .ok (.newarray atype, 2)) (k9 : ∀ r h, vv M G h0 nL T inj h (pc + 2) lv (LR r :: st) (K r h)) :
    vv M G h0 nL T inj h pc lv (LI n :: st) (hb (if 0 ≤ n ∧ n ≤ 1000000 then hp_new h t (.inr (ty, n.toNat, x)) n.toNat else none) K) := by
  intro r9 hfi ho H locs ls cells slots I hls
  by_cases g0 : 0 ≤ n ∧ n ≤ 1000000
  · rw [if_pos g0] at ho
    unfold hp_new at ho
    by_cases g : hp_k h + 1 ≤ 1200144 ∧ hp_s h + n.toNat ≤ 5495482
    · rw [if_pos g, hb_some] at ho
      subst hty
      have hR := X.2.2.2.2.2.2.2.1
      have hsz := I.1.1
      have hin : inR n := ⟨by omega, by omega⟩
      have hcl : (iI n).toNatClampNeg = n.toNat := by
        have := iI_clamp hin g0.1
        omega
      refine va_newaK (N := n.toNat) X.1.1 X.1.2.1 (X.1.2.2.2.2 _ harr) (g := F0 (z_m M) pc ls (.int (iI n) :: st.map lvV)) rfl d rfl ?_ hcl ?_ ?_ ?_ rfl fun H1 cA e1 z1 o1 hAr hNm => ?_
      · rw [← iI_0]; intro z; have := (iI_lt hin ⟨by omega, by omega⟩).mp z; omega
      · have : n.toNat * componentBytes (newarray.typeOf atype) ≤ n.toNat * 8 := Nat.mul_le_mul_left _ hb8
        omega
      · rw [hR]; show cells + 1 ≤ 1200144 - hp_k h0; have := I.2.2.2.1; omega
      · rw [hR]; show slots + n.toNat ≤ 5495482 - hp_s h0; have := I.2.2.2.2.1; omega
      · have I1 := I.add (t := t) (c := .inr (newarray.typeOf atype, n.toNat, x)) (n := n.toNat) (H1 := H1) ⟨cA, (by show H1[H.size]? = some (vp_cell cA (hp_arr n.toNat x)); rw [hx]; exact e1), hAr, hra cA hNm⟩ z1 o1 g.1 g.2
        have k8 := k9 (some (hp_n h)) _ r9 hfi ho H1 locs ls (cells + 1) (slots + n.toNat) I1 hls
        rw [← hsz]
        exact k8
    · rw [if_neg g] at ho; cases ho
  · rw [if_neg g0] at ho; cases ho
theorem vv_newint (X : hp_X M G h0 own nm cc nL ret tb F L) {t : Nat} {n : Int} {K : Option Nat → HP → Option (ρ × HP)} (d : decode cc pc = .ok (.newarray .int, 2)) (k9 : ∀ r h, vv M G h0 nL T inj h (pc + 2) lv (LR r :: st) (K r h)) : vv M G h0 nL T inj h pc lv (LI n :: st) (hb (nwI h t .int n) K) :=
  vv_newa (atype := .int) X q653 rfl (by decide +kernel) (fun _ h => h) (fun cA N => by show vp_cell cA (N, .inl _) = _; rw [vp_cell_i]; rfl) d k9
theorem vv_newbyte (X : hp_X M G h0 own nm cc nL ret tb F L) {t : Nat} {n : Int} {K : Option Nat → HP → Option (ρ × HP)} (d : decode cc pc = .ok (.newarray .byte, 2)) (k9 : ∀ r h, vv M G h0 nL T inj h (pc + 2) lv (LR r :: st) (K r h)) : vv M G h0 nL T inj h pc lv (LI n :: st) (hb (nwI h t .byte n) K) :=
  vv_newa (atype := .byte) X q349 rfl (by decide +kernel) (fun _ h => h) (fun cA N => by show vp_cell cA (N, .inl _) = _; rw [vp_cell_i]; rfl) d k9
theorem vv_newbool (X : hp_X M G h0 own nm cc nL ret tb F L) {t : Nat} {n : Int} {K : Option Nat → HP → Option (ρ × HP)} (d : decode cc pc = .ok (.newarray .boolean, 2)) (k9 : ∀ r h, vv M G h0 nL T inj h (pc + 2) lv (LR r :: st) (K r h)) : vv M G h0 nL T inj h pc lv (LI n :: st) (hb (nwI h t .boolean n) K) :=
  vv_newa (atype := .boolean) X q3547 rfl (by decide +kernel) (fun _ h => h) (fun cA N => by show vp_cell cA (N, .inl _) = _; rw [vp_cell_i]; rfl) d k9
theorem vv_newlong (X : hp_X M G h0 own nm cc nL ret tb F L) {t : Nat} {n : Int} {K : Option Nat → HP → Option (ρ × HP)} (d : decode cc pc = .ok (.newarray .long, 2)) (k9 : ∀ r h, vv M G h0 nL T inj h (pc + 2) lv (LR r :: st) (K r h)) : vv M G h0 nL T inj h pc lv (LI n :: st) (hb (nwJ h t n) K) :=
  vv_newa (atype := .long) X q2874 rfl (by decide +kernel) (fun _ h => h) (fun cA N => by show vp_cell cA (N, .inr (.inl _)) = _; rw [vp_cell_l]; rfl) d k9
theorem vv_newref (X : hp_X M G h0 own nm cc nL ret tb F L) {C : String} {ix t : Nat} {n : Int} {K : Option Nat → HP → Option (ρ × HP)} (hcl : Cond.classLink own ix C ∈ lw_all) (hao : C ∈ hp_aos) (d : decode cc pc = .ok (.anewarray ix, 3)) (k9 : ∀ r h, vv M G h0 nL T inj h (pc + 3) lv (LR r :: st) (K r h)) : vv M G h0 nL T inj h pc lv (LI n :: st) (hb (nwR h t C n) K) := by
  intro r9 hfi ho H locs ls cells slots I hls
  unfold nwR at ho
  by_cases g0 : 0 ≤ n ∧ n ≤ 1000000
  · rw [if_pos g0] at ho
    unfold hp_new at ho
    by_cases g : hp_k h + 1 ≤ 1200144 ∧ hp_s h + n.toNat ≤ 5495482
    · rw [if_pos g, hb_some] at ho
      have hR := X.2.2.2.2.2.2.2.1
      have hsz := I.1.1
      have hin : inR n := ⟨by omega, by omega⟩
      have hclm : (iI n).toNatClampNeg = n.toNat := by
        have := iI_clamp hin g0.1
        omega
      refine W.anew X.1.1 X.1.2.1 X.1.2.2.2.1 (X.1.2.2.2.2 _ hcl) (va_AO.use (X.2.1.2.2.2.1 C hao)) (g := F0 (z_m M) pc ls (.int (iI n) :: st.map lvV)) rfl d rfl ?_ (by rw [hclm]; omega) ?_ ?_ fun cA kA comp f1 f2 f3 f4 => ?_
      · rw [← iI_0]; intro z; have := (iI_lt hin ⟨by omega, by omega⟩).mp z; omega
      · rw [hR]; show cells + 1 ≤ 1200144 - hp_k h0; have := I.2.2.2.1; omega
      · rw [hR, hclm]; show slots + n.toNat ≤ 5495482 - hp_s h0; have := I.2.2.2.2.1; omega
      · generalize hH1 : H.push ({ cls := cA, slots := Array.replicate (iI n).toNatClampNeg .null, vm := .none } : Cell) = H1
        have z1 : H1.size = H.size + 1 := by rw [← hH1, Array.size_push]
        have e1 : H1[H.size]? = some (arrV cA n.toNat (fun _ => .null)) := by rw [← hH1, Array.getElem?_push_size, ← arrV_new, hclm]
        have o1 : ∀ q : Nat, q < H.size → H1[q]? = H[q]? := fun q hq => by rw [← hH1, Array.getElem?_push, if_neg (Nat.ne_of_lt hq)]
        have I1 := I.add (t := t) (c := .inr (.object C, n.toNat, .inr (.inr (fun _ => none)))) (n := n.toNat) (H1 := H1) ⟨cA, (by show H1[H.size]? = some (vp_cell cA (n.toNat, .inr (.inr (.inr (.inr _))))); rw [vp_cell_q]; exact e1), fun N z => ⟨(fun k h => by cases h), kA, f2, comp, f3⟩, ⟨kA, comp, f2, f3, f4, f1⟩⟩ z1 o1 g.1 g.2
        have k8 := k9 (some (hp_n h)) _ r9 hfi ho H1 locs ls (cells + 1) (slots + n.toNat) I1 hls
        rw [← hsz, hclm]
        exact k8
    · rw [if_neg g] at ho; cases ho
  · rw [if_neg g0] at ho; cases ho
end HROWS
