/-! STAGE 0g: rows of arrays, receivers, statics, casts, natives, exceptions. -/
set_option maxRecDepth 100000
section HROWS2
variable {M : hp_M} {G : va_G} {h0 h : HP} {own nm : String} {cc : ByteArray} {nL F L : Nat} {ret : Option FieldType} {tb : List ExceptionTableEntry}
variable {ρ : Type} {inj : ρ → hp_O} {lv : List (Nat × LV)} {pc : Nat} {T : hp_O → HP → State → Prop} {st : List LV} {o : Option (ρ × HP)}
theorem zz_in {i : Int} {n : Nat} (h0 : 0 ≤ i) (h1 : i < n) (h2 : n ≤ 2147483647) : vp_in (iI i) n ∧ ((iI i).toNatClampNeg : Int) = i := by
  have hin : inR i := ⟨by omega, by omega⟩
  have hc := iI_clamp hin h0
  refine ⟨fun q => ?_, hc⟩
  rcases q with q | q
  · rw [← iI_0] at q; have := (iI_lt hin ⟨by omega, by omega⟩).mp q; omega
  · omega
theorem zz_arr (X : hp_X M G h0 own nm cc nL ret tb F L) {H : Heap} {locs : List Loc} {cells slots : Nat} (I : hp_I M G h0 h H locs cells slots) {a t n : Nat} {ty : FieldType} {x : hp_Ar} (e : h.1 a = some (t, .inr (ty, n, x))) : ∃ cA : ClassId, va_P G hp_cl [(a, .inl (cA, hp_arr n x))] H ∧ va_K G hp_cl [(cA, ty)] (z_s M) := by
  obtain ⟨cA, h1, h2, h3⟩ := I.1.2.1 a t _ e
  refine ⟨cA, fun j q hj => ?_, X.2.1.1.1, fun j q hj => ?_⟩
  · cases j with
    | zero => cases hj; exact h1
    | succ j => cases hj
  · cases j with
    | zero => cases hj; exact ⟨h2, h3⟩
    | succ j => cases hj
theorem vv_alen (X : hp_X M G h0 own nm cc nL ret tb F L) {r : Option Nat} {K : Int → Option (ρ × HP)} (d : decode cc pc = .ok (.arraylength, 1)) (k9 : ∀ v, vv M G h0 nL T inj h (pc + 1) lv (LI v :: st) (K v)) : vv M G h0 nL T inj h pc lv (LR r :: st) ((alen h r).bind K) := by
  intro r9 hfi ho H locs ls cells slots I hls
  obtain ⟨v, hv, ho2⟩ := Option.bind_eq_some_iff.mp ho
  unfold alen at hv
  split at hv
  · rename_i a t ty n x e
    cases hv
    obtain ⟨rfl, e2⟩ := arr_some e
    obtain ⟨cA, hP, hK⟩ := zz_arr X I e2
    refine va_alen (v := iI n) X.1.1 X.1.2.1 hK hP 0 0 rfl rfl ?_ d (k9 _ r9 hfi ho2 H locs ls cells slots I hls)
    rcases x with f | f | f <;> rfl
  · cases hv
theorem zz_ald (X : hp_X M G h0 own nm cc nL ret tb F L) {ty : FieldType} {op : Instr}
    (hk : ∀ {H : Heap} {locs : List Loc} {cells slots : Nat} {Q : State → Prop} {ls : Array Slot} {rest : List Value} {ws : va_W} {tys : List (ClassId × FieldType)} {a : Nat}, va_K G hp_cl tys (z_s M) → va_P G hp_cl ws H → ∀ (q0 t0 : Nat) {cA : ClassId} {n : Nat} {f : Nat → Int32}, ws[q0]? = some (a, .inl (cA, n, .inl f)) → tys[t0]? = some (cA, ty) → ∀ {i : Int32}, vp_in i n → decode cc pc = .ok (op, 1) → z_W M H locs cells slots Q (F0 (z_m M) (pc + 1) ls (.int (f i.toNatClampNeg) :: rest)) → z_W M H locs cells slots Q (F0 (z_m M) pc ls (.int i :: .ref a :: rest)))
    {r : Option Nat} {i : Int} {K : Int → Option (ρ × HP)} (d : decode cc pc = .ok (op, 1)) (k9 : ∀ v, vv M G h0 nL T inj h (pc + 1) lv (LI v :: st) (K v)) : vv M G h0 nL T inj h pc lv (LI i :: LR r :: st) ((aldI h ty r i).bind K) := by
  intro r9 hfi ho H locs ls cells slots I hls
  obtain ⟨v, hv, ho2⟩ := Option.bind_eq_some_iff.mp ho
  unfold aldI at hv
  split at hv
  · rename_i a t ty' n f e
    by_cases g : ty' = ty ∧ 0 ≤ i ∧ i < n ∧ n ≤ 2147483647
    · rw [if_pos g] at hv
      cases hv
      obtain ⟨rfl, e2⟩ := arr_some e
      obtain ⟨rfl, g1, g2, g3⟩ := g
      obtain ⟨cA, hP, hK⟩ := zz_arr X I e2
      obtain ⟨c1, c2⟩ := zz_in g1 g2 g3
      refine hk hK hP 0 0 (cA := cA) (n := n) (f := fun j => iI (f (j : Int))) rfl rfl c1 d ?_
      have k8 := k9 (f i) r9 hfi ho2 H locs ls cells slots I hls
      show z_W M H locs cells slots _ (F0 (z_m M) (pc + 1) ls (.int (iI (f ((iI i).toNatClampNeg : Int))) :: st.map lvV))
      rw [c2]
      exact k8
    · rw [if_neg g] at hv; cases hv
  · cases hv
theorem vv_iaload (X : hp_X M G h0 own nm cc nL ret tb F L) {r : Option Nat} {i : Int} {K : Int → Option (ρ × HP)} (d : decode cc pc = .ok (.iaload, 1)) (k9 : ∀ v, vv M G h0 nL T inj h (pc + 1) lv (LI v :: st) (K v)) : vv M G h0 nL T inj h pc lv (LI i :: LR r :: st) ((aldI h .int r i).bind K) :=
  zz_ald X (fun hK hP q0 t0 _ _ _ ha ht _ hin hd k => va_iald X.1.1 X.1.2.1 hK hP q0 t0 ha ht hin hd k) d k9
theorem vv_baload (X : hp_X M G h0 own nm cc nL ret tb F L) {r : Option Nat} {i : Int} {K : Int → Option (ρ × HP)} (d : decode cc pc = .ok (.baload, 1)) (k9 : ∀ v, vv M G h0 nL T inj h (pc + 1) lv (LI v :: st) (K v)) : vv M G h0 nL T inj h pc lv (LI i :: LR r :: st) ((aldI h .byte r i).bind K) :=
  zz_ald X (fun hK hP q0 t0 _ _ _ ha ht _ hin hd k => va_bald X.1.1 X.1.2.1 hK hP q0 t0 ha ht hin hd k) d k9
theorem vv_zaload (X : hp_X M G h0 own nm cc nL ret tb F L) {r : Option Nat} {i : Int} {K : Int → Option (ρ × HP)} (d : decode cc pc = .ok (.baload, 1)) (k9 : ∀ v, vv M G h0 nL T inj h (pc + 1) lv (LI v :: st) (K v)) : vv M G h0 nL T inj h pc lv (LI i :: LR r :: st) ((aldI h .boolean r i).bind K) :=
  zz_ald X (fun hK hP q0 t0 _ _ _ ha ht _ hin hd k => va_zald X.1.1 X.1.2.1 hK hP q0 t0 ha ht hin hd k) d k9
theorem vv_laload (X : hp_X M G h0 own nm cc nL ret tb F L) {r : Option Nat} {i : Int} {K : Int64 → Option (ρ × HP)} (d : decode cc pc = .ok (.laload, 1)) (k9 : ∀ v, vv M G h0 nL T inj h (pc + 1) lv (LJ v :: st) (K v)) : vv M G h0 nL T inj h pc lv (LI i :: LR r :: st) ((aldJ h r i).bind K) := by
  intro r9 hfi ho H locs ls cells slots I hls
  obtain ⟨v, hv, ho2⟩ := Option.bind_eq_some_iff.mp ho
  unfold aldJ at hv
  split at hv
  · rename_i a t ty' n f e
    by_cases g : ty' = .long ∧ 0 ≤ i ∧ i < n ∧ n ≤ 2147483647
    · rw [if_pos g] at hv
      cases hv
      obtain ⟨rfl, e2⟩ := arr_some e
      obtain ⟨rfl, g1, g2, g3⟩ := g
      obtain ⟨cA, hP, hK⟩ := zz_arr X I e2
      obtain ⟨c1, c2⟩ := zz_in g1 g2 g3
      refine va_lald X.1.1 X.1.2.1 hK hP 0 0 (cA := cA) (n := n) (f := fun j => f (j : Int)) rfl rfl c1 d ?_
      have k8 := k9 (f i) r9 hfi ho2 H locs ls cells slots I hls
      show z_W M H locs cells slots _ (F0 (z_m M) (pc + 1) ls (.long (f ((iI i).toNatClampNeg : Int)) :: st.map lvV))
      rw [c2]
      exact k8
    · rw [if_neg g] at hv; cases hv
  · cases hv
theorem vv_aaload (X : hp_X M G h0 own nm cc nL ret tb F L) {C : String} {r : Option Nat} {i : Int} {K : Option Nat → Option (ρ × HP)} (d : decode cc pc = .ok (.aaload, 1)) (k9 : ∀ v, vv M G h0 nL T inj h (pc + 1) lv (LR v :: st) (K v)) : vv M G h0 nL T inj h pc lv (LI i :: LR r :: st) ((aldR h C r i).bind K) := by
  intro r9 hfi ho H locs ls cells slots I hls
  obtain ⟨v, hv, ho2⟩ := Option.bind_eq_some_iff.mp ho
  unfold aldR at hv
  split at hv
  · rename_i a t ty' n f e
    by_cases g : ty' = .object C ∧ 0 ≤ i ∧ i < n ∧ n ≤ 2147483647
    · rw [if_pos g] at hv
      cases hv
      obtain ⟨rfl, e2⟩ := arr_some e
      obtain ⟨rfl, g1, g2, g3⟩ := g
      obtain ⟨cA, hP, hK⟩ := zz_arr X I e2
      obtain ⟨c1, c2⟩ := zz_in g1 g2 g3
      refine va_aldq X.1.1 X.1.2.1 hK hP 0 0 (cA := cA) (C := C) (n := n) (f := fun j => f (j : Int)) rfl rfl c1 d ?_
      have k8 := k9 (f i) r9 hfi ho2 H locs ls cells slots I hls
      show z_W M H locs cells slots _ (F0 (z_m M) (pc + 1) ls (va_rf (f ((iI i).toNatClampNeg : Int)) :: st.map lvV))
      rw [c2]
      exact k8
    · rw [if_neg g] at hv; cases hv
  · cases hv
theorem zz_up {α β : Type} (g : α → β) (f : Int → α) {i : Int} {m : Nat} (hm : (m : Int) = i) (v : α) : (fun q : Nat => if q = m then g v else g (f (q : Int))) = fun q : Nat => g (upI f i v (q : Int)) := by
  funext q
  unfold upI
  by_cases hq : q = m
  · subst hq; rw [if_pos rfl, if_pos hm]
  · rw [if_neg hq, if_neg (by omega)]
theorem vv_iastore (X : hp_X M G h0 own nm cc nL ret tb F L) {r : Option Nat} {i v : Int} {K : HP → Option (ρ × HP)} (d : decode cc pc = .ok (.iastore, 1)) (k9 : ∀ h, vv M G h0 nL T inj h (pc + 1) lv st (K h)) : vv M G h0 nL T inj h pc lv (LI v :: LI i :: LR r :: st) ((astI h .int r i v).bind K) := by
  intro r9 hfi ho H locs ls cells slots I hls
  obtain ⟨h1, hv, ho2⟩ := Option.bind_eq_some_iff.mp ho
  unfold astI at hv
  split at hv
  · rename_i a t ty' n f e
    by_cases g : ty' = .int ∧ 0 ≤ i ∧ i < n ∧ n ≤ 2147483647 ∧ t ≠ 1
    · rw [if_pos g] at hv
      cases hv
      obtain ⟨rfl, e2⟩ := arr_some e
      obtain ⟨rfl, g1, g2, g3, n1⟩ := g
      obtain ⟨cA, p1, p2, p3⟩ := I.1.2.1 a t _ e2
      obtain ⟨c1, c2⟩ := zz_in g1 g2 g3
      refine W.iast X.1.1 X.1.2.1 p1 (p2 n (fun j => .int (iI (f (j : Int))))) (fun q => by cases q) (by show ¬ (_ ∨ (arrV _ _ _).slots.size ≤ _); rw [arrV_size]; exact c1) rfl rfl d fun H1 e1 z oq => ?_
      refine k9 _ r9 hfi ho2 H1 _ ls cells slots (I.set (L := [⟨a, _⟩]) e2 n1 n1 ⟨cA, ?_, p2, p3⟩ z oq (fun l hl => by rw [List.mem_singleton.mp hl])) hls
      show H1[a]? = some (vp_cell cA (n, .inl _))
      rw [e1]
      show some ((vp_cell cA (n, .inl _)).setSlot _ _) = _
      rw [vp_cell_i, vp_cell_i, arrV_store]
      congr 2
      exact zz_up (fun z => Value.int (iI z)) f c2 v
    · rw [if_neg g] at hv; cases hv
  · cases hv
theorem vv_bastore (X : hp_X M G h0 own nm cc nL ret tb F L) {r : Option Nat} {i v : Int} {K : HP → Option (ρ × HP)} (d : decode cc pc = .ok (.bastore, 1)) (k9 : ∀ h, vv M G h0 nL T inj h (pc + 1) lv st (K h)) : vv M G h0 nL T inj h pc lv (LI v :: LI i :: LR r :: st) ((astB h r i v).bind K) := by
  intro r9 hfi ho H locs ls cells slots I hls
  obtain ⟨h1, hv, ho2⟩ := Option.bind_eq_some_iff.mp ho
  unfold astB at hv
  by_cases gv : -128 ≤ v ∧ v ≤ 127
  · rw [if_pos gv] at hv
    unfold astI at hv
    split at hv
    · rename_i a t ty' n f e
      by_cases g : ty' = .byte ∧ 0 ≤ i ∧ i < n ∧ n ≤ 2147483647 ∧ t ≠ 1
      · rw [if_pos g] at hv
        cases hv
        obtain ⟨rfl, e2⟩ := arr_some e
        obtain ⟨rfl, g1, g2, g3, n1⟩ := g
        obtain ⟨cA, p1, p2, p3⟩ := I.1.2.1 a t _ e2
        obtain ⟨c1, c2⟩ := zz_in g1 g2 g3
        refine W.bast X.1.1 X.1.2.1 p1 (p2 n (fun j => .int (iI (f (j : Int))))) (fun q => by cases q) (by show ¬ (_ ∨ (arrV _ _ _).slots.size ≤ _); rw [arrV_size]; exact c1) rfl rfl d fun H1 e1 z oq => ?_
        refine k9 _ r9 hfi ho2 H1 _ ls cells slots (I.set (L := [⟨a, _⟩]) e2 n1 n1 ⟨cA, ?_, p2, p3⟩ z oq (fun l hl => by rw [List.mem_singleton.mp hl])) hls
        show H1[a]? = some (vp_cell cA (n, .inl _))
        rw [e1, (zz_byte gv).1]
        show some ((vp_cell cA (n, .inl _)).setSlot _ _) = _
        rw [vp_cell_i, vp_cell_i, arrV_store]
        congr 2
        exact zz_up (fun z => Value.int (iI z)) f c2 v
      · rw [if_neg g] at hv; cases hv
    · cases hv
  · rw [if_neg gv] at hv; cases hv
theorem vv_zastore (X : hp_X M G h0 own nm cc nL ret tb F L) {r : Option Nat} {i v : Int} {K : HP → Option (ρ × HP)} (d : decode cc pc = .ok (.bastore, 1)) (k9 : ∀ h, vv M G h0 nL T inj h (pc + 1) lv st (K h)) : vv M G h0 nL T inj h pc lv (LI v :: LI i :: LR r :: st) ((astZ h r i v).bind K) := by
  intro r9 hfi ho H locs ls cells slots I hls
  obtain ⟨h1, hv, ho2⟩ := Option.bind_eq_some_iff.mp ho
  unfold astZ at hv
  by_cases gv : v = 0 ∨ v = 1
  · rw [if_pos gv] at hv
    unfold astI at hv
    split at hv
    · rename_i a t ty' n f e
      by_cases g : ty' = .boolean ∧ 0 ≤ i ∧ i < n ∧ n ≤ 2147483647 ∧ t ≠ 1
      · rw [if_pos g] at hv
        cases hv
        obtain ⟨rfl, e2⟩ := arr_some e
        obtain ⟨rfl, g1, g2, g3, n1⟩ := g
        obtain ⟨cA, p1, p2, p3⟩ := I.1.2.1 a t _ e2
        obtain ⟨c1, c2⟩ := zz_in g1 g2 g3
        refine W.zast X.1.1 X.1.2.1 p1 (p2 n (fun j => .int (iI (f (j : Int))))) (fun q => by cases q) (by show ¬ (_ ∨ (arrV _ _ _).slots.size ≤ _); rw [arrV_size]; exact c1) rfl rfl d fun H1 e1 z oq => ?_
        refine k9 _ r9 hfi ho2 H1 _ ls cells slots (I.set (L := [⟨a, _⟩]) e2 n1 n1 ⟨cA, ?_, p2, p3⟩ z oq (fun l hl => by rw [List.mem_singleton.mp hl])) hls
        have hn : narrow .boolean (.int (iI v)) = .int (iI v) := by rcases gv with gv | gv <;> subst gv <;> decide +kernel
        show H1[a]? = some (vp_cell cA (n, .inl _))
        rw [e1, hn]
        show some ((vp_cell cA (n, .inl _)).setSlot _ _) = _
        rw [vp_cell_i, vp_cell_i, arrV_store]
        congr 2
        exact zz_up (fun z => Value.int (iI z)) f c2 v
      · rw [if_neg g] at hv; cases hv
    · cases hv
  · rw [if_neg gv] at hv; cases hv
theorem vv_lastore (X : hp_X M G h0 own nm cc nL ret tb F L) {r : Option Nat} {i : Int} {v : Int64} {K : HP → Option (ρ × HP)} (d : decode cc pc = .ok (.lastore, 1)) (k9 : ∀ h, vv M G h0 nL T inj h (pc + 1) lv st (K h)) : vv M G h0 nL T inj h pc lv (LJ v :: LI i :: LR r :: st) ((astJ h r i v).bind K) := by
  intro r9 hfi ho H locs ls cells slots I hls
  obtain ⟨h1, hv, ho2⟩ := Option.bind_eq_some_iff.mp ho
  unfold astJ at hv
  split at hv
  · rename_i a t ty' n f e
    by_cases g : ty' = .long ∧ 0 ≤ i ∧ i < n ∧ n ≤ 2147483647 ∧ t ≠ 1
    · rw [if_pos g] at hv
      cases hv
      obtain ⟨rfl, e2⟩ := arr_some e
      obtain ⟨rfl, g1, g2, g3, n1⟩ := g
      obtain ⟨cA, p1, p2, p3⟩ := I.1.2.1 a t _ e2
      obtain ⟨c1, c2⟩ := zz_in g1 g2 g3
      refine W.last X.1.1 X.1.2.1 p1 (p2 n (fun j => .long (f (j : Int)))) (fun q => by cases q) (by show ¬ (_ ∨ (arrV _ _ _).slots.size ≤ _); rw [arrV_size]; exact c1) rfl rfl d fun H1 e1 z oq => ?_
      refine k9 _ r9 hfi ho2 H1 _ ls cells slots (I.set (L := [⟨a, _⟩]) e2 n1 n1 ⟨cA, ?_, p2, p3⟩ z oq (fun l hl => by rw [List.mem_singleton.mp hl])) hls
      show H1[a]? = some (vp_cell cA (n, .inr (.inl _)))
      rw [e1]
      show some ((vp_cell cA (n, .inr (.inl _))).setSlot _ _) = _
      rw [vp_cell_l, vp_cell_l, arrV_store]
      congr 2
      exact zz_up (fun z => Value.long z) f c2 v
    · rw [if_neg g] at hv; cases hv
  · cases hv
/-- an object of the class ci may be put into an array of Cs -/
def hp_ca (C : String) (ci : Nat) : Prop := ∃ q : vw_C, hp_cl[ci]? = some q ∧ (q.1 = C ∨ Cond.castable q.1 C ∈ lw_tbl)
theorem vv_aastore (X : hp_X M G h0 own nm cc nL ret tb F L) {C : String} {cs : List Nat} {r v : Option Nat} {i : Int} {K : HP → Option (ρ × HP)} (hcs : ∀ ci ∈ cs, hp_ca C ci) (d : decode cc pc = .ok (.aastore, 1)) (k9 : ∀ h, vv M G h0 nL T inj h (pc + 1) lv st (K h)) : vv M G h0 nL T inj h pc lv (LR v :: LI i :: LR r :: st) ((astR h C cs r i v).bind K) := by
  intro r9 hfi ho H locs ls cells slots I hls
  obtain ⟨h1, hv, ho2⟩ := Option.bind_eq_some_iff.mp ho
  unfold astR at hv
  split at hv
  · rename_i a t ty' n f e
    by_cases g : ty' = .object C ∧ 0 ≤ i ∧ i < n ∧ n ≤ 2147483647 ∧ okR h cs v = true ∧ t ≠ 1
    · rw [if_pos g] at hv
      cases hv
      obtain ⟨rfl, e2⟩ := arr_some e
      obtain ⟨rfl, g1, g2, g3, g4, n1⟩ := g
      obtain ⟨cA, p1, p2, p3⟩ := I.1.2.1 a t _ e2
      obtain ⟨c1, c2⟩ := zz_in g1 g2 g3
      have fin : ∀ (H1 : Heap), H1[a]? = some ((vp_cell cA (hp_arr n (.inr (.inr f)))).setSlot (iI i).toNatClampNeg (va_rf v)) → H1.size = H.size → (∀ q, q ≠ a → H1[q]? = H[q]?) → z_W M H1 (locs ++ [⟨a, (iI i).toNatClampNeg⟩]) cells slots (T (inj r9) hfi) (F0 (z_m M) (pc + 1) ls (st.map lvV)) := by
        intro H1 e1 z oq
        refine k9 _ r9 hfi ho2 H1 _ ls cells slots (I.set (L := [⟨a, _⟩]) e2 n1 n1 ⟨cA, ?_, p2, p3⟩ z oq (fun l hl => by rw [List.mem_singleton.mp hl])) hls
        show H1[a]? = some (vp_cell cA (n, .inr (.inr (.inr (.inr _)))))
        rw [e1]
        show some ((vp_cell cA (n, .inr (.inr (.inr (.inr _))))).setSlot _ _) = _
        rw [vp_cell_q, vp_cell_q, arrV_store]
        congr 2
        exact zz_up va_rf f c2 v
      cases v with
      | none =>
        exact va_WaastN (C := C) X.1.1 X.1.2.1 p1 (p2 n (fun j => va_rf (f (j : Int)))) (fun h => by cases h) (by show ¬ (_ ∨ (arrV _ _ _).slots.size ≤ _); rw [arrV_size]; exact c1) rfl rfl d fin
      | some b =>
        unfold okR at g4
        dsimp only at g4
        split at g4
        · rename_i c9 e9
          obtain ⟨t9, fs9, e8⟩ := clsOf_some e9
          obtain ⟨q, hq1, hq2⟩ := hcs c9 (of_decide_eq_true g4)
          obtain ⟨⟨r1, s1, cellV, s2, s3, s4, -⟩, -⟩ := I.1.2.1 b t9 _ e8
          cases Option.some.inj (s1.symm.trans hq1)
          have hcls := (X.2.1.1.1 c9 q hq1).2
          obtain ⟨kC, hkC, -⟩ := hcls.2
          obtain ⟨kA, comp, k1, k2, k3, -⟩ := p3
          obtain ⟨kcm, hkcm, -⟩ := Vm.findClass_spec k3
          have hasg : (z_s M).vm.assignable cellV.cls comp = true := by
            rw [s3]
            rcases hq2 with hq2 | hq2
            · have : comp = G.1 c9 := Option.some.inj (k3.symm.trans (by rw [← hq2]; exact hcls.1))
              rw [this]
              exact va_asg _ _
            · obtain ⟨x, t1, f1, f2, f3⟩ := Cond.castable_spec (va_Nw.use (A := #[]) rfl (X.2.1.2.1 _ hq2 rfl))
              cases Option.some.inj (f1.symm.trans hcls.1)
              cases Option.some.inj (f2.symm.trans k3)
              exact f3
          exact W.aast X.1.1 X.1.2.1 p1 (fun q h => by cases h) (fun h => by cases h) k1 k2 rfl hkcm ⟨fun q => c1 (Or.inl q), by show _ < (arrV _ n _).slots.size; rw [arrV_size]; omega⟩ s2 (fun q h => by rw [s4] at h; cases h) (by rw [s3]; exact hkC) hasg rfl rfl d fin
        · cases g4
    · rw [if_neg g] at hv; cases hv
  · cases hv
/-- the receiver's class is looked at -/
theorem vv_rcv {cs : List Nat} {r : Option Nat} {st0 : List LV} {K : Nat → Option (ρ × HP)} (k : ∀ b t ci fs, r = some b → h.1 b = some (t, .inl (ci, fs)) → ci ∈ cs → vv M G h0 nL T inj h pc lv st0 (K b)) : vv M G h0 nL T inj h pc lv st0 ((rcv h r cs).bind K) := by
  refine vv_bnd fun b hb => ?_
  unfold rcv at hb
  obtain ⟨a, ha, hb⟩ := Option.bind_eq_some_iff.mp hb
  split at hb
  · rename_i c e
    by_cases g : c ∈ cs
    · rw [if_pos g] at hb
      cases hb
      obtain ⟨t, fs, e2⟩ := clsOf_some e
      exact k _ t c fs ha e2 g
    · rw [if_neg g] at hb; cases hb
  · cases hb
theorem vv_cls {b : Nat} {st0 : List LV} {K : Nat → Option (ρ × HP)} (k : ∀ t ci fs, h.1 b = some (t, .inl (ci, fs)) → vv M G h0 nL T inj h pc lv st0 (K ci)) : vv M G h0 nL T inj h pc lv st0 ((clsOf h b).bind K) := by
  refine vv_bnd fun c hc => ?_
  obtain ⟨t, fs, e2⟩ := clsOf_some hc
  exact k t c fs e2
theorem vvx_cls {b q : Nat} {st0 : List LV} {K : Nat → Option (ρ × HP)} (k : ∀ t ci fs, h.1 b = some (t, .inl (ci, fs)) → vvx M G h0 nL T inj h pc lv st0 q (K ci)) : vvx M G h0 nL T inj h pc lv st0 q ((clsOf h b).bind K) := by
  intro r9 hf ho H locs ls cells slots I hls
  obtain ⟨c, hc, ho2⟩ := Option.bind_eq_some_iff.mp ho
  obtain ⟨t, fs, e2⟩ := clsOf_some hc
  exact k t c fs e2 r9 hf ho2 H locs ls cells slots I hls
theorem vv_gets (X : hp_X M G h0 own nm cc nL ret tb F L) {C n dd : String} {v : Value} {w : LV} {ix : Nat} (hq : (C, n, dd, v) ∈ hp_sts (hp_c h)) (hw : lvV w = v) (hl : Cond.fieldLink own ix C n dd ∈ lw_all) (d : decode cc pc = .ok (.getstatic ix, 3)) (k : vv M G h0 nL T inj h (pc + 3) lv (w :: st) o) : vv M G h0 nL T inj h pc lv st o := by
  intro r9 hf ho H locs ls cells slots I hls
  obtain ⟨cf, kf, fi, f, a, cell, h1, h2, h3, h4, h5, h6, h7, h8⟩ := I.1.2.2.1 _ hq
  dsimp only at h1 h7
  subst hw
  exact W.gets X.1.1 X.1.2.1 X.1.2.2.2.1 (X.1.2.2.2.2 _ hl) h1 h2 h3 h4 h5 (fun e => by rw [e] at h6; cases h6) h7 rfl d (k r9 hf ho H locs ls cells slots I hls)
/-- Object.<init> -/
theorem vv_objInit (X : hp_X M G h0 own nm cc nL ret tb F L) {b ix : Nat} {r : Option Nat} (hr : r = some b) (q1 : Cond.methodLink own ix Lib.objectInit ∈ lw_all) (q2 : Cond.instanceMethod Lib.objectInit ∈ lw_all) (q3 : Cond.code Lib.objectInit ⟨#[0xb1]⟩ 1 none ∈ lw_all) (hF : 1 ≤ F) (hL : 28 ≤ L) (hlen : st.length ≤ 8) (d : decode cc pc = .ok (.invokespecial ix, 3)) (k : vv M G h0 nL T inj h (pc + 3) lv st o) : vv M G h0 nL T inj h pc lv (LR r :: st) o := by
  intro r9 hf ho H locs ls cells slots I hls
  subst hr
  have h1 := zz_cats (st.map lvV)
  rw [List.length_map] at h1
  have hR := X.2.2.2.2.2.2.2.1
  refine W.objInit X.1.1 X.1.2.1 X.1.2.2.2.1 (X.1.2.2.2.2 _ q1) (X.1.2.2.2.2 _ q2) (X.1.2.2.2.2 _ q3) rfl (hls.1.trans X.1.2.2.1.symm) rfl d (by rw [hR]; exact hF) ?_ (k r9 hf ho H locs ls cells slots I hls)
  rw [hR]
  show 2 * 0 + _ + 12 ≤ L
  omega
/-- casts of null, and of objects by their classes -/
def hp_ct (own : String) (ix : Nat) (nm9 : String) (cs : List Nat) : Prop := Cond.classLink own ix nm9 ∈ lw_all ∧ ∀ ci ∈ cs, ∃ q : vw_C, hp_cl[ci]? = some q ∧ (q.1 = nm9 ∨ Cond.castable q.1 nm9 ∈ lw_tbl)
def chk (h : HP) (r : Option Nat) (cs : List Nat) : Option Unit := if okR h cs r = true then some () else none
theorem vv_checkcast (X : hp_X M G h0 own nm cc nL ret tb F L) {ix : Nat} {nm9 : String} {cs : List Nat} {r : Option Nat} {K : Unit → Option (ρ × HP)} (hc : hp_ct own ix nm9 cs) (d : decode cc pc = .ok (.checkcast ix, 3)) (k : vv M G h0 nL T inj h (pc + 3) lv (LR r :: st) (K ())) : vv M G h0 nL T inj h pc lv (LR r :: st) ((chk h r cs).bind K) := by
  intro r9 hf ho H locs ls cells slots I hls
  obtain ⟨u, hu, ho⟩ := Option.bind_eq_some_iff.mp ho
  unfold chk at hu
  by_cases g : okR h cs r = true
  · have k8 := k r9 hf ho H locs ls cells slots I hls
    cases r with
    | none => exact lv_castN X.1.1 X.1.2.1 d k8
    | some b =>
      unfold okR at g
      dsimp only at g
      split at g
      · rename_i c9 e9
        obtain ⟨t9, fs9, e8⟩ := clsOf_some e9
        obtain ⟨q, hq1, hq2⟩ := hc.2 c9 (of_decide_eq_true g)
        obtain ⟨cell, s1, s2, s3, -⟩ := zz_recv X I e8 hq1
        rcases hq2 with hq2 | hq2
        · exact va_castE X.1.1 X.1.2.1 X.1.2.2.2.1 (X.1.2.2.2.2 _ hc.1) ⟨cell, s1, s2, by rw [← hq2]; exact s3⟩ d k8
        · exact va_castY X.1.1 X.1.2.1 X.1.2.2.2.1 (X.1.2.2.2.2 _ hc.1) (X.2.1.2.1 _ hq2 rfl) ⟨cell, s1, s2, s3⟩ d k8
      · cases g
  · rw [if_neg g] at hu; cases hu
/-- casts of arrays -/
def chkA (h : HP) (r : Option Nat) (ty : FieldType) : Option Unit := match r with
  | none => some ()
  | some _ => match arr h r with
    | some (_, _, ty', _, _) => if ty' = ty then some () else none
    | none => none
theorem vv_checkcastA (X : hp_X M G h0 own nm cc nL ret tb F L) {ix : Nat} {C nm9 : String} {r : Option Nat} {K : Unit → Option (ρ × HP)} (hl : Cond.classLink own ix nm9 ∈ lw_all) (hn : "[" ++ (FieldType.object C).toString = nm9) (d : decode cc pc = .ok (.checkcast ix, 3)) (k : vv M G h0 nL T inj h (pc + 3) lv (LR r :: st) (K ())) : vv M G h0 nL T inj h pc lv (LR r :: st) ((chkA h r (.object C)).bind K) := by
  intro r9 hf ho H locs ls cells slots I hls
  obtain ⟨u, hu, ho⟩ := Option.bind_eq_some_iff.mp ho
  have k8 := k r9 hf ho H locs ls cells slots I hls
  cases r with
  | none => exact lv_castN X.1.1 X.1.2.1 d k8
  | some b =>
    unfold chkA at hu
    dsimp only at hu
    split at hu
    · rename_i a t ty' n x e
      by_cases g : ty' = .object C
      · subst g
        obtain ⟨e1, e2⟩ := arr_some e
        cases e1
        obtain ⟨cA, p1, p2, p3⟩ := I.1.2.1 _ t _ e2
        have hP : va_P G hp_cl [(b, .inl (cA, hp_arr n x))] H := fun j q hj => by
          cases j with
          | zero => cases hj; exact p1
          | succ j => cases hj
        exact va_castA X.1.1 X.1.2.1 X.1.2.2.2.1 (X.1.2.2.2.2 _ hl) hP 0 rfl (va_nmO p3 hn) d k8
      · rw [if_neg g] at hu; cases hu
    · cases hu
theorem vv_instanceof (X : hp_X M G h0 own nm cc nL ret tb F L) {ix : Nat} {nm9 : String} {yes no : List Nat} {r : Option Nat} {K : Int → Option (ρ × HP)} (hc : hp_ct own ix nm9 yes) (hno : ∀ ci ∈ no, ∃ q : vw_C, hp_cl[ci]? = some q ∧ (q.1, nm9) ∈ hp_ncs) (d : decode cc pc = .ok (.instanceof ix, 3)) (k : ∀ v, vv M G h0 nL T inj h (pc + 3) lv (LI v :: st) (K v)) : vv M G h0 nL T inj h pc lv (LR r :: st) ((ins h r yes no).bind K) := by
  intro r9 hf ho H locs ls cells slots I hls
  obtain ⟨u, hu, ho⟩ := Option.bind_eq_some_iff.mp ho
  have k8 := k u r9 hf ho H locs ls cells slots I hls
  unfold ins at hu
  cases r with
  | none =>
    cases hu
    exact lv_instN X.1.1 X.1.2.1 d k8
  | some b =>
    dsimp only at hu
    split at hu
    · rename_i c9 e9
      obtain ⟨t9, fs9, e8⟩ := clsOf_some e9
      by_cases g : c9 ∈ yes
      · rw [if_pos g] at hu
        cases hu
        obtain ⟨q, hq1, hq2⟩ := hc.2 c9 g
        obtain ⟨cell, s1, s2, s3, -⟩ := zz_recv X I e8 hq1
        rcases hq2 with hq2 | hq2
        · exact va_instE X.1.1 X.1.2.1 X.1.2.2.2.1 (X.1.2.2.2.2 _ hc.1) ⟨cell, s1, s2, by rw [← hq2]; exact s3⟩ d k8
        · exact va_instY X.1.1 X.1.2.1 X.1.2.2.2.1 (X.1.2.2.2.2 _ hc.1) (X.2.1.2.1 _ hq2 rfl) ⟨cell, s1, s2, s3⟩ d k8
      · rw [if_neg g] at hu
        by_cases g2 : c9 ∈ no
        · rw [if_pos g2] at hu
          cases hu
          obtain ⟨q, hq1, hq2⟩ := hno c9 g2
          obtain ⟨cell, s1, s2, s3, -⟩ := zz_recv X I e8 hq1
          exact va_instNo X.1.1 X.1.2.1 X.1.2.2.2.1 (X.1.2.2.2.2 _ hc.1) (X.2.1.2.2.2.2.1 _ hq2) ⟨cell, s1, s2, s3⟩ d k8
        · rw [if_neg g2] at hu; cases hu
    · cases hu
end HROWS2
