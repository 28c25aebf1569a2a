/-! STAGE 0e: rows of the pure instructions, printed by gen/mkrows.py -/
set_option maxRecDepth 100000
/-- pure words of the functions -/
def iLT {α : Type} (a b : Int) (x y : Option α) : Option α := if inR a ∧ inR b then (if a < b then x else y) else none
def iLE {α : Type} (a b : Int) (x y : Option α) : Option α := if inR a ∧ inR b then (if a ≤ b then x else y) else none
def iEQ {α : Type} (a b : Int) (x y : Option α) : Option α := if inR a ∧ inR b then (if a = b then x else y) else none
def rEQ {α : Type} (a b : Option Nat) (x y : Option α) : Option α := if a = b then x else y
def rNU {α : Type} (a : Option Nat) (x y : Option α) : Option α := if a = none then x else y
def iIN {α : Type} (a : Int) (x : Option α) : Option α := if inR a then x else none
def iDV (a b : Int) : Option Int := if 0 ≤ a ∧ a ≤ 2147483647 ∧ 0 < b ∧ b ≤ 2147483647 then some (a / b) else none
def iRM (a b : Int) : Option Int := if 0 ≤ a ∧ a ≤ 2147483647 ∧ 0 < b ∧ b ≤ 2147483647 then some (a % b) else none
def iAnd (a b : Int) : Int := (iI a &&& iI b).toInt
def iOr (a b : Int) : Int := (iI a ||| iI b).toInt
def iXor (a b : Int) : Int := (iI a ^^^ iI b).toInt
def iShl (a b : Int) : Int := (iI a <<< (iI b &&& 31)).toInt
def iShr (a b : Int) : Int := (iI a >>> (iI b &&& 31)).toInt
def iUshr (a b : Int) : Int := (((iI a).toUInt32 >>> ((iI b).toUInt32 &&& Int32.toUInt32 31)).toInt32).toInt
def iB (a : Int) : Int := ((iI a).toInt8.toInt32).toInt
def iC (a : Int) : Int := (((iI a).toUInt32 % 65536).toInt32).toInt
def iL (a : Int) : Int64 := (iI a).toInt64
def lI (x : Int64) : Int := (x.toInt32).toInt
def lCmp (x y : Int64) : Int := (lg_cmp x y).toInt
def lShl (x : Int64) (b : Int) : Int64 := x <<< ((iI b).toInt64 &&& 63)
def lUshr (x : Int64) (b : Int) : Int64 := (x.toUInt64 >>> ((iI b).toInt64.toUInt64 &&& Int64.toUInt64 63)).toInt64
def fI (x : UInt32) : Int := (FP.f2i x).toInt
def fCmp (op : CmpOp) (x y : UInt32) : Int := (Op.cmpValue (FP.fcmp x y) op).toInt
def dCmp (op : CmpOp) (x y : UInt64) : Int := (Op.cmpValue (FP.dcmp x y) op).toInt
def dDv (x y : UInt64) : Option UInt64 := if (FP.ddiv x y) &&& 0x7fffffffffffffff ≤ 0x7ff0000000000000 then some (FP.ddiv x y) else none
def fDv (x y : UInt32) : Option UInt32 := if (FP.fdiv x y) &&& 0x7fffffff ≤ 0x7f800000 then some (FP.fdiv x y) else none
def fMl (x y : UInt32) : Option UInt32 := if (FP.fmul x y) &&& 0x7fffffff ≤ 0x7f800000 then some (FP.fmul x y) else none
theorem iDV_iI {a b c : Int} (h : iDV a b = some c) : ¬ iI b = 0 ∧ iI a / iI b = iI c := by
  unfold iDV at h
  by_cases g : 0 ≤ a ∧ a ≤ 2147483647 ∧ 0 < b ∧ b ≤ 2147483647
  · rw [if_pos g] at h
    cases h
    obtain ⟨x, rfl⟩ : ∃ x : Nat, a = x := ⟨a.toNat, by omega⟩
    obtain ⟨y, rfl⟩ : ∃ y : Nat, b = y := ⟨b.toNat, by omega⟩
    refine ⟨?_, ?_⟩
    · intro e
      have := (iI_eq (a := (y : Int)) (b := 0) ⟨by omega, by omega⟩ ⟨by omega, by omega⟩).mp (by rw [e]; exact iI_0.symm)
      omega
    · have h1 := pk_div (a := x) (d := y) (by omega) (by omega) (by omega)
      rw [iI_nI, iI_nI, iI_nI] at h1
      rw [h1]
      congr 1
  · rw [if_neg g] at h; cases h
theorem iRM_iI {a b c : Int} (h : iRM a b = some c) : ¬ iI b = 0 ∧ iI a - iI a / iI b * iI b = iI c := by
  unfold iRM at h
  by_cases g : 0 ≤ a ∧ a ≤ 2147483647 ∧ 0 < b ∧ b ≤ 2147483647
  · rw [if_pos g] at h
    cases h
    obtain ⟨x, rfl⟩ : ∃ x : Nat, a = x := ⟨a.toNat, by omega⟩
    obtain ⟨y, rfl⟩ : ∃ y : Nat, b = y := ⟨b.toNat, by omega⟩
    refine ⟨?_, ?_⟩
    · intro e
      have := (iI_eq (a := (y : Int)) (b := 0) ⟨by omega, by omega⟩ ⟨by omega, by omega⟩).mp (by rw [e]; exact iI_0.symm)
      omega
    · have h1 := pk_rem (a := x) (d := y) (by omega) (by omega) (by omega)
      rw [iI_nI, iI_nI, iI_nI] at h1
      rw [h1]
      congr 1
  · rw [if_neg g] at h; cases h
theorem lvL_at {lv : List (Nat × LV)} {nL i : Nat} {v : LV} {ls : Array Slot} (h : lv_has ls nL (lvL lv)) (j : Nat) (e : lv[j]? = some (i, v)) : ls[i]? = some (.val (lvV v)) := by
  refine lv_at h j ?_
  unfold lvL
  rw [List.getElem?_map, e]
  rfl
theorem lvL_st {lv lv' : List (Nat × LV)} {i : Nat} {v : LV} (e : (i, v) :: lv.filter (fun q => !(q.1 == i) && !(q.1 + 1 == i && lvc q.2 == 2)) = lv') : (i, lvV v) :: (lvL lv).filter (fun q => !(q.1 == i) && !(q.1 + 1 == i && q.2.category == 2)) = lvL lv' := by
  subst e
  unfold lvL
  rw [List.map_cons, List.filter_map]
  congr 1
  congr 1
  apply List.filter_congr
  intro q _
  simp only [Function.comp, lvV_cat]
theorem lvL_st2 {lv lv' : List (Nat × LV)} {i : Nat} {v : LV} (e : (i, v) :: lv.filter (fun q => !(q.1 == i) && (!(q.1 == i + 1) && !(q.1 + 1 == i && lvc q.2 == 2))) = lv') : (i, lvV v) :: (lvL lv).filter (fun q => !(q.1 == i) && (!(q.1 == i + 1) && !(q.1 + 1 == i && q.2.category == 2))) = lvL lv' := by
  subst e
  unfold lvL
  rw [List.map_cons, List.filter_map]
  congr 1
  congr 1
  apply List.filter_congr
  intro q _
  simp only [Function.comp, lvV_cat]
section ROWS
variable {M : hp_M} {G : va_G} {h0 h : HP} {own nm : String} {cc : ByteArray} {nL F L : Nat} {ret : Option FieldType} {tb : List ExceptionTableEntry}
variable {ρ : Type} {inj : ρ → hp_O} {lv lv' : List (Nat × LV)} {pc : Nat} {T : hp_O → HP → State → Prop} {st : List LV} {o : Option (ρ × HP)}
theorem vv_iload (X : hp_X M G h0 own nm cc nL ret tb F L) {i : Nat} {z : Int} (j : Nat) (e : lv[j]? = some (i, LI z)) (d : decode cc pc = .ok (.iload i, 2)) (k : vv M G h0 nL T inj h (pc + 2) lv (LI z :: st) o) : vv M G h0 nL T inj h pc lv (st) o := by
  intro r9 hf ho H locs ls cells slots I hls
  exact lv_iload X.1.1 X.1.2.1 d (lvL_at hls j e) (k r9 hf ho H locs ls cells slots I hls)
theorem vv_iload_n (X : hp_X M G h0 own nm cc nL ret tb F L) {i : Nat} {z : Int} {kf : Fin 4} (hi : (kf : Nat) = i) (j : Nat) (e : lv[j]? = some (i, LI z)) (d : decode cc pc = .ok (.iload_n kf, 1)) (k : vv M G h0 nL T inj h (pc + 1) lv (LI z :: st) o) : vv M G h0 nL T inj h pc lv (st) o := by
  intro r9 hf ho H locs ls cells slots I hls
  exact lv_iload_n X.1.1 X.1.2.1 d hi (lvL_at hls j e) (k r9 hf ho H locs ls cells slots I hls)
theorem vv_aload (X : hp_X M G h0 own nm cc nL ret tb F L) {i : Nat} {z : Option Nat} (j : Nat) (e : lv[j]? = some (i, LR z)) (d : decode cc pc = .ok (.aload i, 2)) (k : vv M G h0 nL T inj h (pc + 2) lv (LR z :: st) o) : vv M G h0 nL T inj h pc lv (st) o := by
  intro r9 hf ho H locs ls cells slots I hls
  have hg := lvL_at hls j e
  cases z with
  | none => exact lv_aloadN X.1.1 X.1.2.1 d hg (k r9 hf ho H locs ls cells slots I hls)
  | some y => exact lv_aload X.1.1 X.1.2.1 d hg (k r9 hf ho H locs ls cells slots I hls)
theorem vv_aload_n (X : hp_X M G h0 own nm cc nL ret tb F L) {i : Nat} {z : Option Nat} {kf : Fin 4} (hi : (kf : Nat) = i) (j : Nat) (e : lv[j]? = some (i, LR z)) (d : decode cc pc = .ok (.aload_n kf, 1)) (k : vv M G h0 nL T inj h (pc + 1) lv (LR z :: st) o) : vv M G h0 nL T inj h pc lv (st) o := by
  intro r9 hf ho H locs ls cells slots I hls
  have hg := lvL_at hls j e
  cases z with
  | none => exact lv_aload_nN X.1.1 X.1.2.1 d hi hg (k r9 hf ho H locs ls cells slots I hls)
  | some y => exact lv_aload_n X.1.1 X.1.2.1 d hi hg (k r9 hf ho H locs ls cells slots I hls)
theorem vv_lload (X : hp_X M G h0 own nm cc nL ret tb F L) {i : Nat} {z : Int64} (j : Nat) (e : lv[j]? = some (i, LJ z)) (d : decode cc pc = .ok (.lload i, 2)) (k : vv M G h0 nL T inj h (pc + 2) lv (LJ z :: st) o) : vv M G h0 nL T inj h pc lv (st) o := by
  intro r9 hf ho H locs ls cells slots I hls
  exact lv_lload X.1.1 X.1.2.1 d (lvL_at hls j e) (k r9 hf ho H locs ls cells slots I hls)
theorem vv_lload_n (X : hp_X M G h0 own nm cc nL ret tb F L) {i : Nat} {z : Int64} {kf : Fin 4} (hi : (kf : Nat) = i) (j : Nat) (e : lv[j]? = some (i, LJ z)) (d : decode cc pc = .ok (.lload_n kf, 1)) (k : vv M G h0 nL T inj h (pc + 1) lv (LJ z :: st) o) : vv M G h0 nL T inj h pc lv (st) o := by
  intro r9 hf ho H locs ls cells slots I hls
  exact lv_lload_n X.1.1 X.1.2.1 d hi (lvL_at hls j e) (k r9 hf ho H locs ls cells slots I hls)
theorem vv_fload (X : hp_X M G h0 own nm cc nL ret tb F L) {i : Nat} {z : UInt32} (j : Nat) (e : lv[j]? = some (i, LF z)) (d : decode cc pc = .ok (.fload i, 2)) (k : vv M G h0 nL T inj h (pc + 2) lv (LF z :: st) o) : vv M G h0 nL T inj h pc lv (st) o := by
  intro r9 hf ho H locs ls cells slots I hls
  exact lv_fload X.1.1 X.1.2.1 d (lvL_at hls j e) (k r9 hf ho H locs ls cells slots I hls)
theorem vv_fload_n (X : hp_X M G h0 own nm cc nL ret tb F L) {i : Nat} {z : UInt32} {kf : Fin 4} (hi : (kf : Nat) = i) (j : Nat) (e : lv[j]? = some (i, LF z)) (d : decode cc pc = .ok (.fload_n kf, 1)) (k : vv M G h0 nL T inj h (pc + 1) lv (LF z :: st) o) : vv M G h0 nL T inj h pc lv (st) o := by
  intro r9 hf ho H locs ls cells slots I hls
  exact lv_fload_n X.1.1 X.1.2.1 d hi (lvL_at hls j e) (k r9 hf ho H locs ls cells slots I hls)
theorem vv_dload (X : hp_X M G h0 own nm cc nL ret tb F L) {i : Nat} {z : UInt64} (j : Nat) (e : lv[j]? = some (i, LD z)) (d : decode cc pc = .ok (.dload i, 2)) (k : vv M G h0 nL T inj h (pc + 2) lv (LD z :: st) o) : vv M G h0 nL T inj h pc lv (st) o := by
  intro r9 hf ho H locs ls cells slots I hls
  exact lv_dload X.1.1 X.1.2.1 d (lvL_at hls j e) (k r9 hf ho H locs ls cells slots I hls)
theorem vv_dload_n (X : hp_X M G h0 own nm cc nL ret tb F L) {i : Nat} {z : UInt64} {kf : Fin 4} (hi : (kf : Nat) = i) (j : Nat) (e : lv[j]? = some (i, LD z)) (d : decode cc pc = .ok (.dload_n kf, 1)) (k : vv M G h0 nL T inj h (pc + 1) lv (LD z :: st) o) : vv M G h0 nL T inj h pc lv (st) o := by
  intro r9 hf ho H locs ls cells slots I hls
  exact lv_dload_n X.1.1 X.1.2.1 d hi (lvL_at hls j e) (k r9 hf ho H locs ls cells slots I hls)
theorem vv_istore (X : hp_X M G h0 own nm cc nL ret tb F L) {i : Nat} {z : Int} (hn : i < nL) (e : (i, LI z) :: lv.filter (fun q => !(q.1 == i) && !(q.1 + 1 == i && lvc q.2 == 2)) = lv') (d : decode cc pc = .ok (.istore i, 2)) (k : vv M G h0 nL T inj h (pc + 2) lv' st o) : vv M G h0 nL T inj h pc lv (LI z :: st) o := by
  intro r9 hf ho H locs ls cells slots I hls
  exact lv_istore X.1.1 X.1.2.1 d hls hn (lvL_st e) (fun ls2 hl2 => k r9 hf ho H locs ls2 cells slots I hl2)
theorem vv_istore_n (X : hp_X M G h0 own nm cc nL ret tb F L) {i : Nat} {z : Int} {kf : Fin 4} (hi : (kf : Nat) = i) (hn : i < nL) (e : (i, LI z) :: lv.filter (fun q => !(q.1 == i) && !(q.1 + 1 == i && lvc q.2 == 2)) = lv') (d : decode cc pc = .ok (.istore_n kf, 1)) (k : vv M G h0 nL T inj h (pc + 1) lv' st o) : vv M G h0 nL T inj h pc lv (LI z :: st) o := by
  intro r9 hf ho H locs ls cells slots I hls
  exact lv_istore_n X.1.1 X.1.2.1 d hi hls hn (lvL_st e) (fun ls2 hl2 => k r9 hf ho H locs ls2 cells slots I hl2)
theorem vv_astore (X : hp_X M G h0 own nm cc nL ret tb F L) {i : Nat} {z : Option Nat} (hn : i < nL) (e : (i, LR z) :: lv.filter (fun q => !(q.1 == i) && !(q.1 + 1 == i && lvc q.2 == 2)) = lv') (d : decode cc pc = .ok (.astore i, 2)) (k : vv M G h0 nL T inj h (pc + 2) lv' st o) : vv M G h0 nL T inj h pc lv (LR z :: st) o := by
  intro r9 hf ho H locs ls cells slots I hls
  have hs := lvL_st e
  cases z with
  | none => exact lv_astoreN X.1.1 X.1.2.1 d hls hn hs (fun ls2 hl2 => k r9 hf ho H locs ls2 cells slots I hl2)
  | some y => exact lv_astore X.1.1 X.1.2.1 d hls hn hs (fun ls2 hl2 => k r9 hf ho H locs ls2 cells slots I hl2)
theorem vv_astore_n (X : hp_X M G h0 own nm cc nL ret tb F L) {i : Nat} {z : Option Nat} {kf : Fin 4} (hi : (kf : Nat) = i) (hn : i < nL) (e : (i, LR z) :: lv.filter (fun q => !(q.1 == i) && !(q.1 + 1 == i && lvc q.2 == 2)) = lv') (d : decode cc pc = .ok (.astore_n kf, 1)) (k : vv M G h0 nL T inj h (pc + 1) lv' st o) : vv M G h0 nL T inj h pc lv (LR z :: st) o := by
  intro r9 hf ho H locs ls cells slots I hls
  have hs := lvL_st e
  cases z with
  | none => exact lv_astore_nN X.1.1 X.1.2.1 d hi hls hn hs (fun ls2 hl2 => k r9 hf ho H locs ls2 cells slots I hl2)
  | some y => exact lv_astore_n X.1.1 X.1.2.1 d hi hls hn hs (fun ls2 hl2 => k r9 hf ho H locs ls2 cells slots I hl2)
theorem vv_lstore (X : hp_X M G h0 own nm cc nL ret tb F L) {i : Nat} {z : Int64} (hn : i + 1 < nL) (e : (i, LJ z) :: lv.filter (fun q => !(q.1 == i) && (!(q.1 == i + 1) && !(q.1 + 1 == i && lvc q.2 == 2))) = lv') (d : decode cc pc = .ok (.lstore i, 2)) (k : vv M G h0 nL T inj h (pc + 2) lv' st o) : vv M G h0 nL T inj h pc lv (LJ z :: st) o := by
  intro r9 hf ho H locs ls cells slots I hls
  exact lv_lstore X.1.1 X.1.2.1 d hls hn (lvL_st2 e) (fun ls2 hl2 => k r9 hf ho H locs ls2 cells slots I hl2)
theorem vv_lstore_n (X : hp_X M G h0 own nm cc nL ret tb F L) {i : Nat} {z : Int64} {kf : Fin 4} (hi : (kf : Nat) = i) (hn : i + 1 < nL) (e : (i, LJ z) :: lv.filter (fun q => !(q.1 == i) && (!(q.1 == i + 1) && !(q.1 + 1 == i && lvc q.2 == 2))) = lv') (d : decode cc pc = .ok (.lstore_n kf, 1)) (k : vv M G h0 nL T inj h (pc + 1) lv' st o) : vv M G h0 nL T inj h pc lv (LJ z :: st) o := by
  intro r9 hf ho H locs ls cells slots I hls
  exact lv_lstore_n X.1.1 X.1.2.1 d hi hls hn (lvL_st2 e) (fun ls2 hl2 => k r9 hf ho H locs ls2 cells slots I hl2)
theorem vv_fstore (X : hp_X M G h0 own nm cc nL ret tb F L) {i : Nat} {z : UInt32} (hn : i < nL) (e : (i, LF z) :: lv.filter (fun q => !(q.1 == i) && !(q.1 + 1 == i && lvc q.2 == 2)) = lv') (d : decode cc pc = .ok (.fstore i, 2)) (k : vv M G h0 nL T inj h (pc + 2) lv' st o) : vv M G h0 nL T inj h pc lv (LF z :: st) o := by
  intro r9 hf ho H locs ls cells slots I hls
  exact lv_fstore X.1.1 X.1.2.1 d hls hn (lvL_st e) (fun ls2 hl2 => k r9 hf ho H locs ls2 cells slots I hl2)
theorem vv_fstore_n (X : hp_X M G h0 own nm cc nL ret tb F L) {i : Nat} {z : UInt32} {kf : Fin 4} (hi : (kf : Nat) = i) (hn : i < nL) (e : (i, LF z) :: lv.filter (fun q => !(q.1 == i) && !(q.1 + 1 == i && lvc q.2 == 2)) = lv') (d : decode cc pc = .ok (.fstore_n kf, 1)) (k : vv M G h0 nL T inj h (pc + 1) lv' st o) : vv M G h0 nL T inj h pc lv (LF z :: st) o := by
  intro r9 hf ho H locs ls cells slots I hls
  exact lv_fstore_n X.1.1 X.1.2.1 d hi hls hn (lvL_st e) (fun ls2 hl2 => k r9 hf ho H locs ls2 cells slots I hl2)
theorem vv_dstore (X : hp_X M G h0 own nm cc nL ret tb F L) {i : Nat} {z : UInt64} (hn : i + 1 < nL) (e : (i, LD z) :: lv.filter (fun q => !(q.1 == i) && (!(q.1 == i + 1) && !(q.1 + 1 == i && lvc q.2 == 2))) = lv') (d : decode cc pc = .ok (.dstore i, 2)) (k : vv M G h0 nL T inj h (pc + 2) lv' st o) : vv M G h0 nL T inj h pc lv (LD z :: st) o := by
  intro r9 hf ho H locs ls cells slots I hls
  exact lv_dstore X.1.1 X.1.2.1 d hls hn (lvL_st2 e) (fun ls2 hl2 => k r9 hf ho H locs ls2 cells slots I hl2)
theorem vv_dstore_n (X : hp_X M G h0 own nm cc nL ret tb F L) {i : Nat} {z : UInt64} {kf : Fin 4} (hi : (kf : Nat) = i) (hn : i + 1 < nL) (e : (i, LD z) :: lv.filter (fun q => !(q.1 == i) && (!(q.1 == i + 1) && !(q.1 + 1 == i && lvc q.2 == 2))) = lv') (d : decode cc pc = .ok (.dstore_n kf, 1)) (k : vv M G h0 nL T inj h (pc + 1) lv' st o) : vv M G h0 nL T inj h pc lv (LD z :: st) o := by
  intro r9 hf ho H locs ls cells slots I hls
  exact lv_dstore_n X.1.1 X.1.2.1 d hi hls hn (lvL_st2 e) (fun ls2 hl2 => k r9 hf ho H locs ls2 cells slots I hl2)
theorem vv_iinc (X : hp_X M G h0 own nm cc nL ret tb F L) {i : Nat} {z n : Int} (j : Nat) (ej : lv[j]? = some (i, LI z)) (hn : i < nL) (e : (i, LI (z + n)) :: lv.filter (fun q => !(q.1 == i) && !(q.1 + 1 == i && lvc q.2 == 2)) = lv') (d : decode cc pc = .ok (.iinc i n, 3)) (k : vv M G h0 nL T inj h (pc + 3) lv' st o) : vv M G h0 nL T inj h pc lv st o := by
  intro r9 hf ho H locs ls cells slots I hls
  exact lv_iinc X.1.1 X.1.2.1 d hls (k := j) (by unfold lvL; rw [List.getElem?_map, ej]; rfl) (iI_add z n) hn (lvL_st e) (fun ls2 hl2 => k r9 hf ho H locs ls2 cells slots I hl2)
theorem vv_iconst (X : hp_X M G h0 own nm cc nL ret tb F L) {n : Int} (d : decode cc pc = .ok (.iconst n, 1)) (k : vv M G h0 nL T inj h (pc + 1) lv (LI n :: st) o) : vv M G h0 nL T inj h pc lv (st) o := by
  intro r9 hf ho H locs ls cells slots I hls
  exact lv_iconst X.1.1 X.1.2.1 d rfl (k r9 hf ho H locs ls cells slots I hls)
theorem vv_bipush (X : hp_X M G h0 own nm cc nL ret tb F L) {n : Int} (e : (Int8.ofInt n).toInt32 = iI n) (d : decode cc pc = .ok (.bipush n, 2)) (k : vv M G h0 nL T inj h (pc + 2) lv (LI n :: st) o) : vv M G h0 nL T inj h pc lv (st) o := by
  intro r9 hf ho H locs ls cells slots I hls
  exact lv_bipush X.1.1 X.1.2.1 d e (k r9 hf ho H locs ls cells slots I hls)
theorem vv_sipush (X : hp_X M G h0 own nm cc nL ret tb F L) {n : Int} (e : (Int16.ofInt n).toInt32 = iI n) (d : decode cc pc = .ok (.sipush n, 3)) (k : vv M G h0 nL T inj h (pc + 3) lv (LI n :: st) o) : vv M G h0 nL T inj h pc lv (st) o := by
  intro r9 hf ho H locs ls cells slots I hls
  exact lv_sipush X.1.1 X.1.2.1 d e (k r9 hf ho H locs ls cells slots I hls)
theorem vv_lconst (X : hp_X M G h0 own nm cc nL ret tb F L) {n : Fin 2} {v : Int64} (e : Int64.ofNat (n : Nat) = v) (d : decode cc pc = .ok (.lconst n, 1)) (k : vv M G h0 nL T inj h (pc + 1) lv (LJ v :: st) o) : vv M G h0 nL T inj h pc lv (st) o := by
  intro r9 hf ho H locs ls cells slots I hls
  exact lv_lconst X.1.1 X.1.2.1 d e (k r9 hf ho H locs ls cells slots I hls)
theorem vv_dconst0 (X : hp_X M G h0 own nm cc nL ret tb F L) (d : decode cc pc = .ok (.dconst 0, 1)) (k : vv M G h0 nL T inj h (pc + 1) lv (LD FP.dconst0 :: st) o) : vv M G h0 nL T inj h pc lv (st) o := by
  intro r9 hf ho H locs ls cells slots I hls
  exact lv_dconst0 X.1.1 X.1.2.1 d (k r9 hf ho H locs ls cells slots I hls)
theorem vv_null (X : hp_X M G h0 own nm cc nL ret tb F L) (d : decode cc pc = .ok (.aconst_null, 1)) (k : vv M G h0 nL T inj h (pc + 1) lv (LR none :: st) o) : vv M G h0 nL T inj h pc lv (st) o := by
  intro r9 hf ho H locs ls cells slots I hls
  exact lv_null X.1.1 X.1.2.1 d (k r9 hf ho H locs ls cells slots I hls)
theorem vv_ldcI (X : hp_X M G h0 own nm cc nL ret tb F L) {n : Int} {ix : Nat} {v : Int32} (q : Cond.constant own ix v ∈ lw_all) (e : v = iI n) (d : decode cc pc = .ok (.ldc ix, 2)) (k : vv M G h0 nL T inj h (pc + 2) lv (LI n :: st) o) : vv M G h0 nL T inj h pc lv (st) o := by
  intro r9 hf ho H locs ls cells slots I hls
  subst e
  exact lv_ldc X.1.1 X.1.2.1 X.1.2.2.2.1 (X.1.2.2.2.2 _ q) d (k r9 hf ho H locs ls cells slots I hls)
theorem vv_ldcwI (X : hp_X M G h0 own nm cc nL ret tb F L) {n : Int} {ix : Nat} {v : Int32} (q : Cond.constant own ix v ∈ lw_all) (e : v = iI n) (d : decode cc pc = .ok (.ldc_w ix, 3)) (k : vv M G h0 nL T inj h (pc + 3) lv (LI n :: st) o) : vv M G h0 nL T inj h pc lv (st) o := by
  intro r9 hf ho H locs ls cells slots I hls
  subst e
  exact lv_ldcw X.1.1 X.1.2.1 X.1.2.2.2.1 (X.1.2.2.2.2 _ q) d (k r9 hf ho H locs ls cells slots I hls)
theorem vv_ldcF (X : hp_X M G h0 own nm cc nL ret tb F L) {ix : Nat} {v : UInt32} (q : Cond.constantFloat own ix v ∈ lw_all) (d : decode cc pc = .ok (.ldc ix, 2)) (k : vv M G h0 nL T inj h (pc + 2) lv (LF v :: st) o) : vv M G h0 nL T inj h pc lv (st) o := by
  intro r9 hf ho H locs ls cells slots I hls
  exact lv_ldcf X.1.1 X.1.2.1 X.1.2.2.2.1 (X.1.2.2.2.2 _ q) d (k r9 hf ho H locs ls cells slots I hls)
theorem vv_ldc2 (X : hp_X M G h0 own nm cc nL ret tb F L) {ix : Nat} {v : Int64} (q : Cond.constantLong own ix v ∈ lw_all) (d : decode cc pc = .ok (.ldc2_w ix, 3)) (k : vv M G h0 nL T inj h (pc + 3) lv (LJ v :: st) o) : vv M G h0 nL T inj h pc lv (st) o := by
  intro r9 hf ho H locs ls cells slots I hls
  exact lv_ldc2 X.1.1 X.1.2.1 X.1.2.2.2.1 (X.1.2.2.2.2 _ q) d (k r9 hf ho H locs ls cells slots I hls)
theorem vv_ldcS (X : hp_X M G h0 own nm cc nL ret tb F L) {ix i : Nat} {tx : String} (q : (own, ix, tx, i) ∈ hp_strs) (d : decode cc pc = .ok (.ldc ix, 2)) (k : vv M G h0 nL T inj h (pc + 2) lv (LR (hp_c h i) :: st) o) : vv M G h0 nL T inj h pc lv (st) o := by
  intro r9 hf ho H locs ls cells slots I hls
  obtain ⟨a, h1, h2⟩ := X.2.1.2.2.2.2.2 _ q
  have e1 : hp_c h i = some a := by rw [I.2.2.2.2.2.1]; exact h1
  have k9 := k r9 hf ho H locs ls cells slots I hls
  rw [e1] at k9
  exact va_ldcS X.1.1 X.1.2.1 X.1.2.2.2.1 h2 d k9
theorem vv_iadd (X : hp_X M G h0 own nm cc nL ret tb F L) {a b : Int} (d : decode cc pc = .ok (.iadd, 1)) (k : vv M G h0 nL T inj h (pc + 1) lv (LI (a + b) :: st) o) : vv M G h0 nL T inj h pc lv (LI b :: LI a :: st) o := by
  intro r9 hf ho H locs ls cells slots I hls
  refine lv_iadd X.1.1 X.1.2.1 d ?_
  rw [iI_add]
  exact k r9 hf ho H locs ls cells slots I hls
theorem vv_isub (X : hp_X M G h0 own nm cc nL ret tb F L) {a b : Int} (d : decode cc pc = .ok (.isub, 1)) (k : vv M G h0 nL T inj h (pc + 1) lv (LI (a - b) :: st) o) : vv M G h0 nL T inj h pc lv (LI b :: LI a :: st) o := by
  intro r9 hf ho H locs ls cells slots I hls
  refine lv_isub X.1.1 X.1.2.1 d ?_
  rw [iI_sub]
  exact k r9 hf ho H locs ls cells slots I hls
theorem vv_imul (X : hp_X M G h0 own nm cc nL ret tb F L) {a b : Int} (d : decode cc pc = .ok (.imul, 1)) (k : vv M G h0 nL T inj h (pc + 1) lv (LI (a * b) :: st) o) : vv M G h0 nL T inj h pc lv (LI b :: LI a :: st) o := by
  intro r9 hf ho H locs ls cells slots I hls
  refine lv_imul X.1.1 X.1.2.1 d ?_
  rw [iI_mul]
  exact k r9 hf ho H locs ls cells slots I hls
theorem vv_iand (X : hp_X M G h0 own nm cc nL ret tb F L) {a b : Int} (d : decode cc pc = .ok (.iand, 1)) (k : vv M G h0 nL T inj h (pc + 1) lv (LI (iAnd a b) :: st) o) : vv M G h0 nL T inj h pc lv (LI b :: LI a :: st) o := by
  intro r9 hf ho H locs ls cells slots I hls
  refine lv_iand X.1.1 X.1.2.1 d ?_
  have k9 := k r9 hf ho H locs ls cells slots I hls
  rwa [List.map_cons, lvV, iAnd, iI_to] at k9
theorem vv_ior (X : hp_X M G h0 own nm cc nL ret tb F L) {a b : Int} (d : decode cc pc = .ok (.ior, 1)) (k : vv M G h0 nL T inj h (pc + 1) lv (LI (iOr a b) :: st) o) : vv M G h0 nL T inj h pc lv (LI b :: LI a :: st) o := by
  intro r9 hf ho H locs ls cells slots I hls
  refine lv_ior X.1.1 X.1.2.1 d ?_
  have k9 := k r9 hf ho H locs ls cells slots I hls
  rwa [List.map_cons, lvV, iOr, iI_to] at k9
theorem vv_ixor (X : hp_X M G h0 own nm cc nL ret tb F L) {a b : Int} (d : decode cc pc = .ok (.ixor, 1)) (k : vv M G h0 nL T inj h (pc + 1) lv (LI (iXor a b) :: st) o) : vv M G h0 nL T inj h pc lv (LI b :: LI a :: st) o := by
  intro r9 hf ho H locs ls cells slots I hls
  refine lv_ixor X.1.1 X.1.2.1 d ?_
  have k9 := k r9 hf ho H locs ls cells slots I hls
  rwa [List.map_cons, lvV, iXor, iI_to] at k9
theorem vv_ishl (X : hp_X M G h0 own nm cc nL ret tb F L) {a b : Int} (d : decode cc pc = .ok (.ishl, 1)) (k : vv M G h0 nL T inj h (pc + 1) lv (LI (iShl a b) :: st) o) : vv M G h0 nL T inj h pc lv (LI b :: LI a :: st) o := by
  intro r9 hf ho H locs ls cells slots I hls
  refine lv_ishl X.1.1 X.1.2.1 d ?_
  have k9 := k r9 hf ho H locs ls cells slots I hls
  rwa [List.map_cons, lvV, iShl, iI_to] at k9
theorem vv_ishr (X : hp_X M G h0 own nm cc nL ret tb F L) {a b : Int} (d : decode cc pc = .ok (.ishr, 1)) (k : vv M G h0 nL T inj h (pc + 1) lv (LI (iShr a b) :: st) o) : vv M G h0 nL T inj h pc lv (LI b :: LI a :: st) o := by
  intro r9 hf ho H locs ls cells slots I hls
  refine lv_ishr X.1.1 X.1.2.1 d ?_
  have k9 := k r9 hf ho H locs ls cells slots I hls
  rwa [List.map_cons, lvV, iShr, iI_to] at k9
theorem vv_iushr (X : hp_X M G h0 own nm cc nL ret tb F L) {a b : Int} (d : decode cc pc = .ok (.iushr, 1)) (k : vv M G h0 nL T inj h (pc + 1) lv (LI (iUshr a b) :: st) o) : vv M G h0 nL T inj h pc lv (LI b :: LI a :: st) o := by
  intro r9 hf ho H locs ls cells slots I hls
  exact lv_iushr X.1.1 X.1.2.1 d (by unfold iUshr; rw [iI_to]) (k r9 hf ho H locs ls cells slots I hls)
theorem vv_ineg (X : hp_X M G h0 own nm cc nL ret tb F L) {a : Int} (d : decode cc pc = .ok (.ineg, 1)) (k : vv M G h0 nL T inj h (pc + 1) lv (LI (-a) :: st) o) : vv M G h0 nL T inj h pc lv (LI a :: st) o := by
  intro r9 hf ho H locs ls cells slots I hls
  refine lv_ineg X.1.1 X.1.2.1 d ?_
  rw [iI_neg]
  exact k r9 hf ho H locs ls cells slots I hls
theorem vv_i2b (X : hp_X M G h0 own nm cc nL ret tb F L) {a : Int} (d : decode cc pc = .ok (.i2b, 1)) (k : vv M G h0 nL T inj h (pc + 1) lv (LI (iB a) :: st) o) : vv M G h0 nL T inj h pc lv (LI a :: st) o := by
  intro r9 hf ho H locs ls cells slots I hls
  exact lv_i2b X.1.1 X.1.2.1 d (by unfold iB; rw [iI_to]) (k r9 hf ho H locs ls cells slots I hls)
theorem vv_i2c (X : hp_X M G h0 own nm cc nL ret tb F L) {a : Int} (d : decode cc pc = .ok (.i2c, 1)) (k : vv M G h0 nL T inj h (pc + 1) lv (LI (iC a) :: st) o) : vv M G h0 nL T inj h pc lv (LI a :: st) o := by
  intro r9 hf ho H locs ls cells slots I hls
  exact lv_i2c X.1.1 X.1.2.1 d (by unfold iC; rw [iI_to]) (k r9 hf ho H locs ls cells slots I hls)
theorem vv_i2l (X : hp_X M G h0 own nm cc nL ret tb F L) {a : Int} (d : decode cc pc = .ok (.i2l, 1)) (k : vv M G h0 nL T inj h (pc + 1) lv (LJ (iL a) :: st) o) : vv M G h0 nL T inj h pc lv (LI a :: st) o := by
  intro r9 hf ho H locs ls cells slots I hls
  exact lv_i2l X.1.1 X.1.2.1 d rfl (k r9 hf ho H locs ls cells slots I hls)
theorem vv_l2i (X : hp_X M G h0 own nm cc nL ret tb F L) {x : Int64} (d : decode cc pc = .ok (.l2i, 1)) (k : vv M G h0 nL T inj h (pc + 1) lv (LI (lI x) :: st) o) : vv M G h0 nL T inj h pc lv (LJ x :: st) o := by
  intro r9 hf ho H locs ls cells slots I hls
  exact lv_l2i X.1.1 X.1.2.1 d (by unfold lI; rw [iI_to]) (k r9 hf ho H locs ls cells slots I hls)
theorem vv_i2f (X : hp_X M G h0 own nm cc nL ret tb F L) {a : Int} (d : decode cc pc = .ok (.i2f, 1)) (k : vv M G h0 nL T inj h (pc + 1) lv (LF (FP.i2f (iI a)) :: st) o) : vv M G h0 nL T inj h pc lv (LI a :: st) o := by
  intro r9 hf ho H locs ls cells slots I hls
  exact lv_i2f X.1.1 X.1.2.1 d (k r9 hf ho H locs ls cells slots I hls)
theorem vv_i2d (X : hp_X M G h0 own nm cc nL ret tb F L) {a : Int} (d : decode cc pc = .ok (.i2d, 1)) (k : vv M G h0 nL T inj h (pc + 1) lv (LD (FP.i2d (iI a)) :: st) o) : vv M G h0 nL T inj h pc lv (LI a :: st) o := by
  intro r9 hf ho H locs ls cells slots I hls
  exact lv_i2d X.1.1 X.1.2.1 d (k r9 hf ho H locs ls cells slots I hls)
theorem vv_ladd (X : hp_X M G h0 own nm cc nL ret tb F L) {x y : Int64} (d : decode cc pc = .ok (.ladd, 1)) (k : vv M G h0 nL T inj h (pc + 1) lv (LJ (x + y) :: st) o) : vv M G h0 nL T inj h pc lv (LJ y :: LJ x :: st) o := by
  intro r9 hf ho H locs ls cells slots I hls
  exact lv_ladd X.1.1 X.1.2.1 d (k r9 hf ho H locs ls cells slots I hls)
theorem vv_lsub (X : hp_X M G h0 own nm cc nL ret tb F L) {x y : Int64} (d : decode cc pc = .ok (.lsub, 1)) (k : vv M G h0 nL T inj h (pc + 1) lv (LJ (x - y) :: st) o) : vv M G h0 nL T inj h pc lv (LJ y :: LJ x :: st) o := by
  intro r9 hf ho H locs ls cells slots I hls
  exact lv_lsub X.1.1 X.1.2.1 d (k r9 hf ho H locs ls cells slots I hls)
theorem vv_land (X : hp_X M G h0 own nm cc nL ret tb F L) {x y : Int64} (d : decode cc pc = .ok (.land, 1)) (k : vv M G h0 nL T inj h (pc + 1) lv (LJ (x &&& y) :: st) o) : vv M G h0 nL T inj h pc lv (LJ y :: LJ x :: st) o := by
  intro r9 hf ho H locs ls cells slots I hls
  exact lv_land X.1.1 X.1.2.1 d (k r9 hf ho H locs ls cells slots I hls)
theorem vv_lor (X : hp_X M G h0 own nm cc nL ret tb F L) {x y : Int64} (d : decode cc pc = .ok (.lor, 1)) (k : vv M G h0 nL T inj h (pc + 1) lv (LJ (x ||| y) :: st) o) : vv M G h0 nL T inj h pc lv (LJ y :: LJ x :: st) o := by
  intro r9 hf ho H locs ls cells slots I hls
  exact lv_lor X.1.1 X.1.2.1 d (k r9 hf ho H locs ls cells slots I hls)
theorem vv_lxor (X : hp_X M G h0 own nm cc nL ret tb F L) {x y : Int64} (d : decode cc pc = .ok (.lxor, 1)) (k : vv M G h0 nL T inj h (pc + 1) lv (LJ (x ^^^ y) :: st) o) : vv M G h0 nL T inj h pc lv (LJ y :: LJ x :: st) o := by
  intro r9 hf ho H locs ls cells slots I hls
  exact lv_lxor X.1.1 X.1.2.1 d (k r9 hf ho H locs ls cells slots I hls)
theorem vv_lshl (X : hp_X M G h0 own nm cc nL ret tb F L) {x : Int64} {b : Int} (d : decode cc pc = .ok (.lshl, 1)) (k : vv M G h0 nL T inj h (pc + 1) lv (LJ (lShl x b) :: st) o) : vv M G h0 nL T inj h pc lv (LI b :: LJ x :: st) o := by
  intro r9 hf ho H locs ls cells slots I hls
  exact lv_lshl X.1.1 X.1.2.1 d rfl (k r9 hf ho H locs ls cells slots I hls)
theorem vv_lushr (X : hp_X M G h0 own nm cc nL ret tb F L) {x : Int64} {b : Int} (d : decode cc pc = .ok (.lushr, 1)) (k : vv M G h0 nL T inj h (pc + 1) lv (LJ (lUshr x b) :: st) o) : vv M G h0 nL T inj h pc lv (LI b :: LJ x :: st) o := by
  intro r9 hf ho H locs ls cells slots I hls
  exact lv_lushr X.1.1 X.1.2.1 d rfl (k r9 hf ho H locs ls cells slots I hls)
theorem vv_lcmp (X : hp_X M G h0 own nm cc nL ret tb F L) {x y : Int64} (d : decode cc pc = .ok (.lcmp, 1)) (k : vv M G h0 nL T inj h (pc + 1) lv (LI (lCmp x y) :: st) o) : vv M G h0 nL T inj h pc lv (LJ y :: LJ x :: st) o := by
  intro r9 hf ho H locs ls cells slots I hls
  refine W.lcmp X.1.1 X.1.2.1 d ?_
  have k9 := k r9 hf ho H locs ls cells slots I hls
  rwa [List.map_cons, lvV, lCmp, iI_to] at k9
theorem vv_fcmp (X : hp_X M G h0 own nm cc nL ret tb F L) {x y : UInt32} {op : CmpOp} (d : decode cc pc = .ok (.fcmp op, 1)) (k : vv M G h0 nL T inj h (pc + 1) lv (LI (fCmp op x y) :: st) o) : vv M G h0 nL T inj h pc lv (LF y :: LF x :: st) o := by
  intro r9 hf ho H locs ls cells slots I hls
  refine lv_fcmp X.1.1 X.1.2.1 d ?_
  have k9 := k r9 hf ho H locs ls cells slots I hls
  rwa [List.map_cons, lvV, fCmp, iI_to] at k9
theorem vv_dcmp (X : hp_X M G h0 own nm cc nL ret tb F L) {x y : UInt64} {op : CmpOp} (d : decode cc pc = .ok (.dcmp op, 1)) (k : vv M G h0 nL T inj h (pc + 1) lv (LI (dCmp op x y) :: st) o) : vv M G h0 nL T inj h pc lv (LD y :: LD x :: st) o := by
  intro r9 hf ho H locs ls cells slots I hls
  refine lv_dcmp X.1.1 X.1.2.1 d ?_
  have k9 := k r9 hf ho H locs ls cells slots I hls
  rwa [List.map_cons, lvV, dCmp, iI_to] at k9
theorem vv_f2i (X : hp_X M G h0 own nm cc nL ret tb F L) {x : UInt32} (d : decode cc pc = .ok (.f2i, 1)) (k : vv M G h0 nL T inj h (pc + 1) lv (LI (fI x) :: st) o) : vv M G h0 nL T inj h pc lv (LF x :: st) o := by
  intro r9 hf ho H locs ls cells slots I hls
  refine lv_f2i X.1.1 X.1.2.1 d ?_
  have k9 := k r9 hf ho H locs ls cells slots I hls
  rwa [List.map_cons, lvV, fI, iI_to] at k9
theorem vv_idiv (X : hp_X M G h0 own nm cc nL ret tb F L) {a b : Int} {K : Int → Option (ρ × HP)} (d : decode cc pc = .ok (.idiv, 1)) (k : ∀ v, vv M G h0 nL T inj h (pc + 1) lv (LI v :: st) (K v)) : vv M G h0 nL T inj h pc lv (LI b :: LI a :: st) ((iDV a b).bind K) := by
  intro r9 hf ho H locs ls cells slots I hls
  obtain ⟨v, hv, ho⟩ := Option.bind_eq_some_iff.mp ho
  obtain ⟨h1, h2⟩ := iDV_iI hv
  refine lv_idiv X.1.1 X.1.2.1 d h1 ?_
  rw [h2]
  exact k v r9 hf ho H locs ls cells slots I hls
theorem vv_irem (X : hp_X M G h0 own nm cc nL ret tb F L) {a b : Int} {K : Int → Option (ρ × HP)} (d : decode cc pc = .ok (.irem, 1)) (k : ∀ v, vv M G h0 nL T inj h (pc + 1) lv (LI v :: st) (K v)) : vv M G h0 nL T inj h pc lv (LI b :: LI a :: st) ((iRM a b).bind K) := by
  intro r9 hf ho H locs ls cells slots I hls
  obtain ⟨v, hv, ho⟩ := Option.bind_eq_some_iff.mp ho
  obtain ⟨h1, h2⟩ := iRM_iI hv
  refine lv_irem X.1.1 X.1.2.1 d h1 ?_
  rw [h2]
  exact k v r9 hf ho H locs ls cells slots I hls
theorem vv_ddiv (X : hp_X M G h0 own nm cc nL ret tb F L) {x y : UInt64} {K : UInt64 → Option (ρ × HP)} (d : decode cc pc = .ok (.ddiv, 1)) (k : ∀ v, vv M G h0 nL T inj h (pc + 1) lv (LD v :: st) (K v)) : vv M G h0 nL T inj h pc lv (LD y :: LD x :: st) ((dDv x y).bind K) := by
  intro r9 hf ho H locs ls cells slots I hls
  obtain ⟨v, hv, ho⟩ := Option.bind_eq_some_iff.mp ho
  unfold dDv at hv
  split at hv
  · rename_i hne
    cases hv
    exact lv_ddiv X.1.1 X.1.2.1 d hne (k _ r9 hf ho H locs ls cells slots I hls)
  · cases hv
theorem vv_fdiv (X : hp_X M G h0 own nm cc nL ret tb F L) {x y : UInt32} {K : UInt32 → Option (ρ × HP)} (d : decode cc pc = .ok (.fdiv, 1)) (k : ∀ v, vv M G h0 nL T inj h (pc + 1) lv (LF v :: st) (K v)) : vv M G h0 nL T inj h pc lv (LF y :: LF x :: st) ((fDv x y).bind K) := by
  intro r9 hf ho H locs ls cells slots I hls
  obtain ⟨v, hv, ho⟩ := Option.bind_eq_some_iff.mp ho
  unfold fDv at hv
  split at hv
  · rename_i hne
    cases hv
    exact lv_fdiv X.1.1 X.1.2.1 d hne (k _ r9 hf ho H locs ls cells slots I hls)
  · cases hv
theorem vv_fmul (X : hp_X M G h0 own nm cc nL ret tb F L) {x y : UInt32} {K : UInt32 → Option (ρ × HP)} (d : decode cc pc = .ok (.fmul, 1)) (k : ∀ v, vv M G h0 nL T inj h (pc + 1) lv (LF v :: st) (K v)) : vv M G h0 nL T inj h pc lv (LF y :: LF x :: st) ((fMl x y).bind K) := by
  intro r9 hf ho H locs ls cells slots I hls
  obtain ⟨v, hv, ho⟩ := Option.bind_eq_some_iff.mp ho
  unfold fMl at hv
  split at hv
  · rename_i hne
    cases hv
    exact lv_fmul X.1.1 X.1.2.1 d hne (k _ r9 hf ho H locs ls cells slots I hls)
  · cases hv
theorem vv_dup (X : hp_X M G h0 own nm cc nL ret tb F L) {a : LV} (ha : lvc a = 1) (d : decode cc pc = .ok (.dup, 1)) (k : vv M G h0 nL T inj h (pc + 1) lv (a :: a :: st) o) : vv M G h0 nL T inj h pc lv (a :: st) o := by
  intro r9 hf ho H locs ls cells slots I hls
  exact lv_dup X.1.1 X.1.2.1 d (by rw [lvV_cat]; exact ha) (k r9 hf ho H locs ls cells slots I hls)
theorem vv_pop (X : hp_X M G h0 own nm cc nL ret tb F L) {a : LV} (ha : lvc a = 1) (d : decode cc pc = .ok (.pop, 1)) (k : vv M G h0 nL T inj h (pc + 1) lv st o) : vv M G h0 nL T inj h pc lv (a :: st) o := by
  intro r9 hf ho H locs ls cells slots I hls
  exact lv_pop X.1.1 X.1.2.1 d (by rw [lvV_cat]; exact ha) (k r9 hf ho H locs ls cells slots I hls)
theorem vv_dup_x1 (X : hp_X M G h0 own nm cc nL ret tb F L) {a b : LV} (ha : lvc a = 1) (hb : lvc b = 1) (d : decode cc pc = .ok (.dup_x1, 1)) (k : vv M G h0 nL T inj h (pc + 1) lv (a :: b :: a :: st) o) : vv M G h0 nL T inj h pc lv (a :: b :: st) o := by
  intro r9 hf ho H locs ls cells slots I hls
  exact lv_dup_x1 X.1.1 X.1.2.1 d (by rw [lvV_cat]; exact ha) (by rw [lvV_cat]; exact hb) (k r9 hf ho H locs ls cells slots I hls)
theorem vv_dup_x2 (X : hp_X M G h0 own nm cc nL ret tb F L) {a b c : LV} (ha : lvc a = 1) (hb : lvc b = 1) (hc : lvc c = 1) (d : decode cc pc = .ok (.dup_x2, 1)) (k : vv M G h0 nL T inj h (pc + 1) lv (a :: b :: c :: a :: st) o) : vv M G h0 nL T inj h pc lv (a :: b :: c :: st) o := by
  intro r9 hf ho H locs ls cells slots I hls
  exact lv_dup_x2 X.1.1 X.1.2.1 d (by rw [lvV_cat]; exact ha) (by rw [lvV_cat]; exact hb) (by rw [lvV_cat]; exact hc) (k r9 hf ho H locs ls cells slots I hls)
theorem vv_dup2 (X : hp_X M G h0 own nm cc nL ret tb F L) {a b : LV} (ha : lvc a = 1) (hb : lvc b = 1) (d : decode cc pc = .ok (.dup2, 1)) (k : vv M G h0 nL T inj h (pc + 1) lv (a :: b :: a :: b :: st) o) : vv M G h0 nL T inj h pc lv (a :: b :: st) o := by
  intro r9 hf ho H locs ls cells slots I hls
  exact lv_dup2_11 X.1.1 X.1.2.1 d (by rw [lvV_cat]; exact ha) (by rw [lvV_cat]; exact hb) (k r9 hf ho H locs ls cells slots I hls)
theorem vv_goto (X : hp_X M G h0 own nm cc nL ret tb F L) {off : Int} {tgt : Nat} (d : decode cc pc = .ok (.goto off, 3)) (ht : (pc : Int) + off = (tgt : Int)) (k : vv M G h0 nL T inj h tgt lv st o) : vv M G h0 nL T inj h pc lv st o := by
  intro r9 hf ho H locs ls cells slots I hls
  exact lv_goto X.1.1 X.1.2.1 d ht (k r9 hf ho H locs ls cells slots I hls)
theorem vv_icmp_eq (X : hp_X M G h0 own nm cc nL ret tb F L) {a b : Int} {off : Int} {tgt : Nat} {x y : Option (ρ × HP)} (d : decode cc pc = .ok (.if_icmp .eq off, 3)) (ht : (pc : Int) + off = (tgt : Int)) (kt : vv M G h0 nL T inj h tgt lv st x) (kf : vv M G h0 nL T inj h (pc + 3) lv st y) : vv M G h0 nL T inj h pc lv (LI b :: LI a :: st) (iEQ a b x y) := by
  intro r9 hf ho H locs ls cells slots I hls
  unfold iEQ at ho
  by_cases g : inR a ∧ inR b
  · rw [if_pos g] at ho
    have e := iI_eq g.1 g.2
    by_cases c : a = b
    · rw [if_pos c] at ho
      have c' := e.mpr c
      refine lv_icmp_eq X.1.1 X.1.2.1 d ht (fun z => ?_) (fun z => ?_)
      · first | exact kt r9 hf ho H locs ls cells slots I hls | exact absurd c' z | exact absurd (by rw [iI_0] at c'; exact c') z
      · first | exact kf r9 hf ho H locs ls cells slots I hls | exact absurd c' z | exact absurd (by rw [iI_0] at c'; exact c') z
    · rw [if_neg c] at ho
      have c' := fun z => c (e.mp z)
      refine lv_icmp_eq X.1.1 X.1.2.1 d ht (fun z => ?_) (fun z => ?_)
      · first | exact kt r9 hf ho H locs ls cells slots I hls | exact absurd z c' | exact absurd (by rw [iI_0]; exact z) c'
      · first | exact kf r9 hf ho H locs ls cells slots I hls | exact absurd z c' | exact absurd (by rw [iI_0]; exact z) c'
  · rw [if_neg g] at ho; cases ho
theorem vv_icmp_ne (X : hp_X M G h0 own nm cc nL ret tb F L) {a b : Int} {off : Int} {tgt : Nat} {x y : Option (ρ × HP)} (d : decode cc pc = .ok (.if_icmp .ne off, 3)) (ht : (pc : Int) + off = (tgt : Int)) (kt : vv M G h0 nL T inj h tgt lv st y) (kf : vv M G h0 nL T inj h (pc + 3) lv st x) : vv M G h0 nL T inj h pc lv (LI b :: LI a :: st) (iEQ a b x y) := by
  intro r9 hf ho H locs ls cells slots I hls
  unfold iEQ at ho
  by_cases g : inR a ∧ inR b
  · rw [if_pos g] at ho
    have e := iI_eq g.1 g.2
    by_cases c : a = b
    · rw [if_pos c] at ho
      have c' := e.mpr c
      refine lv_icmp_ne X.1.1 X.1.2.1 d ht (fun z => ?_) (fun z => ?_)
      · first | exact kt r9 hf ho H locs ls cells slots I hls | exact absurd c' z | exact absurd (by rw [iI_0] at c'; exact c') z
      · first | exact kf r9 hf ho H locs ls cells slots I hls | exact absurd c' z | exact absurd (by rw [iI_0] at c'; exact c') z
    · rw [if_neg c] at ho
      have c' := fun z => c (e.mp z)
      refine lv_icmp_ne X.1.1 X.1.2.1 d ht (fun z => ?_) (fun z => ?_)
      · first | exact kt r9 hf ho H locs ls cells slots I hls | exact absurd z c' | exact absurd (by rw [iI_0]; exact z) c'
      · first | exact kf r9 hf ho H locs ls cells slots I hls | exact absurd z c' | exact absurd (by rw [iI_0]; exact z) c'
  · rw [if_neg g] at ho; cases ho
theorem vv_icmp_lt (X : hp_X M G h0 own nm cc nL ret tb F L) {a b : Int} {off : Int} {tgt : Nat} {x y : Option (ρ × HP)} (d : decode cc pc = .ok (.if_icmp .lt off, 3)) (ht : (pc : Int) + off = (tgt : Int)) (kt : vv M G h0 nL T inj h tgt lv st x) (kf : vv M G h0 nL T inj h (pc + 3) lv st y) : vv M G h0 nL T inj h pc lv (LI b :: LI a :: st) (iLT a b x y) := by
  intro r9 hf ho H locs ls cells slots I hls
  unfold iLT at ho
  by_cases g : inR a ∧ inR b
  · rw [if_pos g] at ho
    have e := iI_lt g.1 g.2
    by_cases c : a < b
    · rw [if_pos c] at ho
      have c' := e.mpr c
      refine lv_icmp_lt X.1.1 X.1.2.1 d ht (fun z => ?_) (fun z => ?_)
      · first | exact kt r9 hf ho H locs ls cells slots I hls | exact absurd c' z | exact absurd (by rw [iI_0] at c'; exact c') z
      · first | exact kf r9 hf ho H locs ls cells slots I hls | exact absurd c' z | exact absurd (by rw [iI_0] at c'; exact c') z
    · rw [if_neg c] at ho
      have c' := fun z => c (e.mp z)
      refine lv_icmp_lt X.1.1 X.1.2.1 d ht (fun z => ?_) (fun z => ?_)
      · first | exact kt r9 hf ho H locs ls cells slots I hls | exact absurd z c' | exact absurd (by rw [iI_0]; exact z) c'
      · first | exact kf r9 hf ho H locs ls cells slots I hls | exact absurd z c' | exact absurd (by rw [iI_0]; exact z) c'
  · rw [if_neg g] at ho; cases ho
theorem vv_icmp_ge (X : hp_X M G h0 own nm cc nL ret tb F L) {a b : Int} {off : Int} {tgt : Nat} {x y : Option (ρ × HP)} (d : decode cc pc = .ok (.if_icmp .ge off, 3)) (ht : (pc : Int) + off = (tgt : Int)) (kt : vv M G h0 nL T inj h tgt lv st x) (kf : vv M G h0 nL T inj h (pc + 3) lv st y) : vv M G h0 nL T inj h pc lv (LI b :: LI a :: st) (iLE b a x y) := by
  intro r9 hf ho H locs ls cells slots I hls
  unfold iLE at ho
  by_cases g : inR b ∧ inR a
  · rw [if_pos g] at ho
    have e := iI_le g.1 g.2
    by_cases c : b ≤ a
    · rw [if_pos c] at ho
      have c' := e.mpr c
      refine lv_icmp_ge X.1.1 X.1.2.1 d ht (fun z => ?_) (fun z => ?_)
      · first | exact kt r9 hf ho H locs ls cells slots I hls | exact absurd c' z | exact absurd (by rw [iI_0] at c'; exact c') z
      · first | exact kf r9 hf ho H locs ls cells slots I hls | exact absurd c' z | exact absurd (by rw [iI_0] at c'; exact c') z
    · rw [if_neg c] at ho
      have c' := fun z => c (e.mp z)
      refine lv_icmp_ge X.1.1 X.1.2.1 d ht (fun z => ?_) (fun z => ?_)
      · first | exact kt r9 hf ho H locs ls cells slots I hls | exact absurd z c' | exact absurd (by rw [iI_0]; exact z) c'
      · first | exact kf r9 hf ho H locs ls cells slots I hls | exact absurd z c' | exact absurd (by rw [iI_0]; exact z) c'
  · rw [if_neg g] at ho; cases ho
theorem vv_icmp_gt (X : hp_X M G h0 own nm cc nL ret tb F L) {a b : Int} {off : Int} {tgt : Nat} {x y : Option (ρ × HP)} (d : decode cc pc = .ok (.if_icmp .gt off, 3)) (ht : (pc : Int) + off = (tgt : Int)) (kt : vv M G h0 nL T inj h tgt lv st x) (kf : vv M G h0 nL T inj h (pc + 3) lv st y) : vv M G h0 nL T inj h pc lv (LI b :: LI a :: st) (iLT b a x y) := by
  intro r9 hf ho H locs ls cells slots I hls
  unfold iLT at ho
  by_cases g : inR b ∧ inR a
  · rw [if_pos g] at ho
    have e := iI_lt g.1 g.2
    by_cases c : b < a
    · rw [if_pos c] at ho
      have c' := e.mpr c
      refine lv_icmp_gt X.1.1 X.1.2.1 d ht (fun z => ?_) (fun z => ?_)
      · first | exact kt r9 hf ho H locs ls cells slots I hls | exact absurd c' z | exact absurd (by rw [iI_0] at c'; exact c') z
      · first | exact kf r9 hf ho H locs ls cells slots I hls | exact absurd c' z | exact absurd (by rw [iI_0] at c'; exact c') z
    · rw [if_neg c] at ho
      have c' := fun z => c (e.mp z)
      refine lv_icmp_gt X.1.1 X.1.2.1 d ht (fun z => ?_) (fun z => ?_)
      · first | exact kt r9 hf ho H locs ls cells slots I hls | exact absurd z c' | exact absurd (by rw [iI_0]; exact z) c'
      · first | exact kf r9 hf ho H locs ls cells slots I hls | exact absurd z c' | exact absurd (by rw [iI_0]; exact z) c'
  · rw [if_neg g] at ho; cases ho
theorem vv_icmp_le (X : hp_X M G h0 own nm cc nL ret tb F L) {a b : Int} {off : Int} {tgt : Nat} {x y : Option (ρ × HP)} (d : decode cc pc = .ok (.if_icmp .le off, 3)) (ht : (pc : Int) + off = (tgt : Int)) (kt : vv M G h0 nL T inj h tgt lv st x) (kf : vv M G h0 nL T inj h (pc + 3) lv st y) : vv M G h0 nL T inj h pc lv (LI b :: LI a :: st) (iLE a b x y) := by
  intro r9 hf ho H locs ls cells slots I hls
  unfold iLE at ho
  by_cases g : inR a ∧ inR b
  · rw [if_pos g] at ho
    have e := iI_le g.1 g.2
    by_cases c : a ≤ b
    · rw [if_pos c] at ho
      have c' := e.mpr c
      refine lv_icmp_le X.1.1 X.1.2.1 d ht (fun z => ?_) (fun z => ?_)
      · first | exact kt r9 hf ho H locs ls cells slots I hls | exact absurd c' z | exact absurd (by rw [iI_0] at c'; exact c') z
      · first | exact kf r9 hf ho H locs ls cells slots I hls | exact absurd c' z | exact absurd (by rw [iI_0] at c'; exact c') z
    · rw [if_neg c] at ho
      have c' := fun z => c (e.mp z)
      refine lv_icmp_le X.1.1 X.1.2.1 d ht (fun z => ?_) (fun z => ?_)
      · first | exact kt r9 hf ho H locs ls cells slots I hls | exact absurd z c' | exact absurd (by rw [iI_0]; exact z) c'
      · first | exact kf r9 hf ho H locs ls cells slots I hls | exact absurd z c' | exact absurd (by rw [iI_0]; exact z) c'
  · rw [if_neg g] at ho; cases ho
theorem vv_if_eq (X : hp_X M G h0 own nm cc nL ret tb F L) {a : Int} {off : Int} {tgt : Nat} {x y : Option (ρ × HP)} (d : decode cc pc = .ok (.ifCond .eq off, 3)) (ht : (pc : Int) + off = (tgt : Int)) (kt : vv M G h0 nL T inj h tgt lv st x) (kf : vv M G h0 nL T inj h (pc + 3) lv st y) : vv M G h0 nL T inj h pc lv (LI a :: st) (iEQ a 0 x y) := by
  intro r9 hf ho H locs ls cells slots I hls
  unfold iEQ at ho
  by_cases g : inR a ∧ inR 0
  · rw [if_pos g] at ho
    have e := iI_eq g.1 g.2
    by_cases c : a = 0
    · rw [if_pos c] at ho
      have c' := e.mpr c
      refine lv_if_eq X.1.1 X.1.2.1 d ht (fun z => ?_) (fun z => ?_)
      · first | exact kt r9 hf ho H locs ls cells slots I hls | exact absurd c' z | exact absurd (by rw [iI_0] at c'; exact c') z
      · first | exact kf r9 hf ho H locs ls cells slots I hls | exact absurd c' z | exact absurd (by rw [iI_0] at c'; exact c') z
    · rw [if_neg c] at ho
      have c' := fun z => c (e.mp z)
      refine lv_if_eq X.1.1 X.1.2.1 d ht (fun z => ?_) (fun z => ?_)
      · first | exact kt r9 hf ho H locs ls cells slots I hls | exact absurd z c' | exact absurd (by rw [iI_0]; exact z) c'
      · first | exact kf r9 hf ho H locs ls cells slots I hls | exact absurd z c' | exact absurd (by rw [iI_0]; exact z) c'
  · rw [if_neg g] at ho; cases ho
theorem vv_if_ne (X : hp_X M G h0 own nm cc nL ret tb F L) {a : Int} {off : Int} {tgt : Nat} {x y : Option (ρ × HP)} (d : decode cc pc = .ok (.ifCond .ne off, 3)) (ht : (pc : Int) + off = (tgt : Int)) (kt : vv M G h0 nL T inj h tgt lv st y) (kf : vv M G h0 nL T inj h (pc + 3) lv st x) : vv M G h0 nL T inj h pc lv (LI a :: st) (iEQ a 0 x y) := by
  intro r9 hf ho H locs ls cells slots I hls
  unfold iEQ at ho
  by_cases g : inR a ∧ inR 0
  · rw [if_pos g] at ho
    have e := iI_eq g.1 g.2
    by_cases c : a = 0
    · rw [if_pos c] at ho
      have c' := e.mpr c
      refine lv_if_ne X.1.1 X.1.2.1 d ht (fun z => ?_) (fun z => ?_)
      · first | exact kt r9 hf ho H locs ls cells slots I hls | exact absurd c' z | exact absurd (by rw [iI_0] at c'; exact c') z
      · first | exact kf r9 hf ho H locs ls cells slots I hls | exact absurd c' z | exact absurd (by rw [iI_0] at c'; exact c') z
    · rw [if_neg c] at ho
      have c' := fun z => c (e.mp z)
      refine lv_if_ne X.1.1 X.1.2.1 d ht (fun z => ?_) (fun z => ?_)
      · first | exact kt r9 hf ho H locs ls cells slots I hls | exact absurd z c' | exact absurd (by rw [iI_0]; exact z) c'
      · first | exact kf r9 hf ho H locs ls cells slots I hls | exact absurd z c' | exact absurd (by rw [iI_0]; exact z) c'
  · rw [if_neg g] at ho; cases ho
theorem vv_if_lt (X : hp_X M G h0 own nm cc nL ret tb F L) {a : Int} {off : Int} {tgt : Nat} {x y : Option (ρ × HP)} (d : decode cc pc = .ok (.ifCond .lt off, 3)) (ht : (pc : Int) + off = (tgt : Int)) (kt : vv M G h0 nL T inj h tgt lv st x) (kf : vv M G h0 nL T inj h (pc + 3) lv st y) : vv M G h0 nL T inj h pc lv (LI a :: st) (iLT a 0 x y) := by
  intro r9 hf ho H locs ls cells slots I hls
  unfold iLT at ho
  by_cases g : inR a ∧ inR 0
  · rw [if_pos g] at ho
    have e := iI_lt g.1 g.2
    by_cases c : a < 0
    · rw [if_pos c] at ho
      have c' := e.mpr c
      refine lv_if_lt X.1.1 X.1.2.1 d ht (fun z => ?_) (fun z => ?_)
      · first | exact kt r9 hf ho H locs ls cells slots I hls | exact absurd c' z | exact absurd (by rw [iI_0] at c'; exact c') z
      · first | exact kf r9 hf ho H locs ls cells slots I hls | exact absurd c' z | exact absurd (by rw [iI_0] at c'; exact c') z
    · rw [if_neg c] at ho
      have c' := fun z => c (e.mp z)
      refine lv_if_lt X.1.1 X.1.2.1 d ht (fun z => ?_) (fun z => ?_)
      · first | exact kt r9 hf ho H locs ls cells slots I hls | exact absurd z c' | exact absurd (by rw [iI_0]; exact z) c'
      · first | exact kf r9 hf ho H locs ls cells slots I hls | exact absurd z c' | exact absurd (by rw [iI_0]; exact z) c'
  · rw [if_neg g] at ho; cases ho
theorem vv_if_ge (X : hp_X M G h0 own nm cc nL ret tb F L) {a : Int} {off : Int} {tgt : Nat} {x y : Option (ρ × HP)} (d : decode cc pc = .ok (.ifCond .ge off, 3)) (ht : (pc : Int) + off = (tgt : Int)) (kt : vv M G h0 nL T inj h tgt lv st x) (kf : vv M G h0 nL T inj h (pc + 3) lv st y) : vv M G h0 nL T inj h pc lv (LI a :: st) (iLE 0 a x y) := by
  intro r9 hf ho H locs ls cells slots I hls
  unfold iLE at ho
  by_cases g : inR 0 ∧ inR a
  · rw [if_pos g] at ho
    have e := iI_le g.1 g.2
    by_cases c : 0 ≤ a
    · rw [if_pos c] at ho
      have c' := e.mpr c
      refine lv_if_ge X.1.1 X.1.2.1 d ht (fun z => ?_) (fun z => ?_)
      · first | exact kt r9 hf ho H locs ls cells slots I hls | exact absurd c' z | exact absurd (by rw [iI_0] at c'; exact c') z
      · first | exact kf r9 hf ho H locs ls cells slots I hls | exact absurd c' z | exact absurd (by rw [iI_0] at c'; exact c') z
    · rw [if_neg c] at ho
      have c' := fun z => c (e.mp z)
      refine lv_if_ge X.1.1 X.1.2.1 d ht (fun z => ?_) (fun z => ?_)
      · first | exact kt r9 hf ho H locs ls cells slots I hls | exact absurd z c' | exact absurd (by rw [iI_0]; exact z) c'
      · first | exact kf r9 hf ho H locs ls cells slots I hls | exact absurd z c' | exact absurd (by rw [iI_0]; exact z) c'
  · rw [if_neg g] at ho; cases ho
theorem vv_if_gt (X : hp_X M G h0 own nm cc nL ret tb F L) {a : Int} {off : Int} {tgt : Nat} {x y : Option (ρ × HP)} (d : decode cc pc = .ok (.ifCond .gt off, 3)) (ht : (pc : Int) + off = (tgt : Int)) (kt : vv M G h0 nL T inj h tgt lv st x) (kf : vv M G h0 nL T inj h (pc + 3) lv st y) : vv M G h0 nL T inj h pc lv (LI a :: st) (iLT 0 a x y) := by
  intro r9 hf ho H locs ls cells slots I hls
  unfold iLT at ho
  by_cases g : inR 0 ∧ inR a
  · rw [if_pos g] at ho
    have e := iI_lt g.1 g.2
    by_cases c : 0 < a
    · rw [if_pos c] at ho
      have c' := e.mpr c
      refine lv_if_gt X.1.1 X.1.2.1 d ht (fun z => ?_) (fun z => ?_)
      · first | exact kt r9 hf ho H locs ls cells slots I hls | exact absurd c' z | exact absurd (by rw [iI_0] at c'; exact c') z
      · first | exact kf r9 hf ho H locs ls cells slots I hls | exact absurd c' z | exact absurd (by rw [iI_0] at c'; exact c') z
    · rw [if_neg c] at ho
      have c' := fun z => c (e.mp z)
      refine lv_if_gt X.1.1 X.1.2.1 d ht (fun z => ?_) (fun z => ?_)
      · first | exact kt r9 hf ho H locs ls cells slots I hls | exact absurd z c' | exact absurd (by rw [iI_0]; exact z) c'
      · first | exact kf r9 hf ho H locs ls cells slots I hls | exact absurd z c' | exact absurd (by rw [iI_0]; exact z) c'
  · rw [if_neg g] at ho; cases ho
theorem vv_if_le (X : hp_X M G h0 own nm cc nL ret tb F L) {a : Int} {off : Int} {tgt : Nat} {x y : Option (ρ × HP)} (d : decode cc pc = .ok (.ifCond .le off, 3)) (ht : (pc : Int) + off = (tgt : Int)) (kt : vv M G h0 nL T inj h tgt lv st x) (kf : vv M G h0 nL T inj h (pc + 3) lv st y) : vv M G h0 nL T inj h pc lv (LI a :: st) (iLE a 0 x y) := by
  intro r9 hf ho H locs ls cells slots I hls
  unfold iLE at ho
  by_cases g : inR a ∧ inR 0
  · rw [if_pos g] at ho
    have e := iI_le g.1 g.2
    by_cases c : a ≤ 0
    · rw [if_pos c] at ho
      have c' := e.mpr c
      refine lv_if_le X.1.1 X.1.2.1 d ht (fun z => ?_) (fun z => ?_)
      · first | exact kt r9 hf ho H locs ls cells slots I hls | exact absurd c' z | exact absurd (by rw [iI_0] at c'; exact c') z
      · first | exact kf r9 hf ho H locs ls cells slots I hls | exact absurd c' z | exact absurd (by rw [iI_0] at c'; exact c') z
    · rw [if_neg c] at ho
      have c' := fun z => c (e.mp z)
      refine lv_if_le X.1.1 X.1.2.1 d ht (fun z => ?_) (fun z => ?_)
      · first | exact kt r9 hf ho H locs ls cells slots I hls | exact absurd z c' | exact absurd (by rw [iI_0]; exact z) c'
      · first | exact kf r9 hf ho H locs ls cells slots I hls | exact absurd z c' | exact absurd (by rw [iI_0]; exact z) c'
  · rw [if_neg g] at ho; cases ho
theorem vv_acmp_eq (X : hp_X M G h0 own nm cc nL ret tb F L) {a b : Option Nat} {off : Int} {tgt : Nat} {x y : Option (ρ × HP)} (d : decode cc pc = .ok (.if_acmp .eq off, 3)) (ht : (pc : Int) + off = (tgt : Int)) (kt : vv M G h0 nL T inj h tgt lv st x) (kf : vv M G h0 nL T inj h (pc + 3) lv st y) : vv M G h0 nL T inj h pc lv (LR b :: LR a :: st) (rEQ a b x y) := by
  intro r9 hf ho H locs ls cells slots I hls
  unfold rEQ at ho
  refine lv_acmp_eq (rx := a) (ry := b) X.1.1 X.1.2.1 d ht (fun z => ?_) (fun z => ?_)
  · rw [if_pos z] at ho; exact kt r9 hf ho H locs ls cells slots I hls
  · rw [if_neg z] at ho; exact kf r9 hf ho H locs ls cells slots I hls
theorem vv_acmp_ne (X : hp_X M G h0 own nm cc nL ret tb F L) {a b : Option Nat} {off : Int} {tgt : Nat} {x y : Option (ρ × HP)} (d : decode cc pc = .ok (.if_acmp .ne off, 3)) (ht : (pc : Int) + off = (tgt : Int)) (kt : vv M G h0 nL T inj h tgt lv st y) (kf : vv M G h0 nL T inj h (pc + 3) lv st x) : vv M G h0 nL T inj h pc lv (LR b :: LR a :: st) (rEQ a b x y) := by
  intro r9 hf ho H locs ls cells slots I hls
  unfold rEQ at ho
  refine lv_acmp_ne (rx := a) (ry := b) X.1.1 X.1.2.1 d ht (fun z => ?_) (fun z => ?_)
  · rw [if_neg z] at ho; exact kt r9 hf ho H locs ls cells slots I hls
  · rw [if_pos z] at ho; exact kf r9 hf ho H locs ls cells slots I hls
theorem vv_ifnull (X : hp_X M G h0 own nm cc nL ret tb F L) {a : Option Nat} {off : Int} {tgt : Nat} {x y : Option (ρ × HP)} (d : decode cc pc = .ok (.ifnull off, 3)) (ht : (pc : Int) + off = (tgt : Int)) (kt : vv M G h0 nL T inj h tgt lv st x) (kf : vv M G h0 nL T inj h (pc + 3) lv st y) : vv M G h0 nL T inj h pc lv (LR a :: st) (rNU a x y) := by
  intro r9 hf ho H locs ls cells slots I hls
  cases a with
  | none => exact lv_ifnullN X.1.1 X.1.2.1 d ht (kt r9 hf ho H locs ls cells slots I hls)
  | some z => exact lv_ifnull X.1.1 X.1.2.1 d (kf r9 hf ho H locs ls cells slots I hls)
theorem vv_ifnonnull (X : hp_X M G h0 own nm cc nL ret tb F L) {a : Option Nat} {off : Int} {tgt : Nat} {x y : Option (ρ × HP)} (d : decode cc pc = .ok (.ifnonnull off, 3)) (ht : (pc : Int) + off = (tgt : Int)) (kt : vv M G h0 nL T inj h tgt lv st y) (kf : vv M G h0 nL T inj h (pc + 3) lv st x) : vv M G h0 nL T inj h pc lv (LR a :: st) (rNU a x y) := by
  intro r9 hf ho H locs ls cells slots I hls
  cases a with
  | none => exact lv_ifnonnullN X.1.1 X.1.2.1 d (kf r9 hf ho H locs ls cells slots I hls)
  | some z => exact lv_ifnonnull X.1.1 X.1.2.1 d ht (kt r9 hf ho H locs ls cells slots I hls)
/-- a switch: first that its number is one of 32 bits, then case by case -/
theorem vv_iIN {a : Int} {x : Option (ρ × HP)} (k : inR a → vv M G h0 nL T inj h pc lv st x) : vv M G h0 nL T inj h pc lv st (iIN a x) := by
  unfold iIN
  exact vv_if k (fun _ => vv_none)
theorem vv_tsw (X : hp_X M G h0 own nm cc nL ret tb F L) {a dflt lo hi off : Int} {offs : Array Int} {len tgt : Nat} (d : decode cc pc = .ok (.tableswitch dflt lo hi offs, len)) (hr : inR a) (h1 : lo ≤ a) (h2 : a ≤ hi) (h3 : offs[(a - lo).toNat]? = some off) (ht : (pc : Int) + off = (tgt : Int)) (k : vv M G h0 nL T inj h tgt lv st o) : vv M G h0 nL T inj h pc lv (LI a :: st) o := by
  intro r9 hf ho H locs ls cells slots I hls
  exact lv_tableIn (x := iI a) X.1.1 X.1.2.1 d (by rw [iI_toInt hr]; omega) (by rw [iI_toInt hr]; omega) (by rw [iI_toInt hr]; exact h3) ht (k r9 hf ho H locs ls cells slots I hls)
theorem vv_tswD (X : hp_X M G h0 own nm cc nL ret tb F L) {a dflt lo hi : Int} {offs : Array Int} {len tgt : Nat} (d : decode cc pc = .ok (.tableswitch dflt lo hi offs, len)) (hr : inR a) (h1 : a < lo ∨ hi < a) (ht : (pc : Int) + dflt = (tgt : Int)) (k : vv M G h0 nL T inj h tgt lv st o) : vv M G h0 nL T inj h pc lv (LI a :: st) o := by
  intro r9 hf ho H locs ls cells slots I hls
  exact lv_tableOut (x := iI a) X.1.1 X.1.2.1 d (by rw [iI_toInt hr]; exact h1) ht (k r9 hf ho H locs ls cells slots I hls)
theorem vv_lsw (X : hp_X M G h0 own nm cc nL ret tb F L) {a dflt off : Int} {ps : Array (Int × Int)} {len tgt : Nat} (d : decode cc pc = .ok (.lookupswitch dflt ps, len)) (hr : inR a) (hp : (ps.toList.zip (ps.toList.drop 1)).all (fun (a, next) => a.1 < next.1) = true) (h3 : Op.lookupswitch.offset ps.toList dflt a = off) (ht : (pc : Int) + off = (tgt : Int)) (k : vv M G h0 nL T inj h tgt lv st o) : vv M G h0 nL T inj h pc lv (LI a :: st) o := by
  intro r9 hf ho H locs ls cells slots I hls
  exact lv_lookup (x := iI a) X.1.1 X.1.2.1 d hp (by rw [iI_toInt hr]; exact h3) ht (k r9 hf ho H locs ls cells slots I hls)
end ROWS
