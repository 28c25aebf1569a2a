/-! STAGE 2a: overlays; the reference's block (printed by gen/mktwin.py). -/
set_option maxRecDepth 100000
/-- n cells from b on, over the heap h -/
def OV (b n : Nat) (f : Nat → Option (Nat × hp_C)) (h : HP) : HP := (fun q => if b ≤ q ∧ q < b + n then f (q - b) else h.1 q, h.2)
theorem OV_at {b n k : Nat} {f : Nat → Option (Nat × hp_C)} {h : HP} (hk : k < n) : (OV b n f h).1 (b + k) = f k := by
  unfold OV
  dsimp only
  rw [if_pos (by omega), Nat.add_sub_cancel_left]
theorem OV_out {b n q : Nat} {f : Nat → Option (Nat × hp_C)} {h : HP} (hq : ¬ (b ≤ q ∧ q < b + n)) : (OV b n f h).1 q = h.1 q := by
  unfold OV
  dsimp only
  rw [if_neg hq]
theorem OV_set {b n k : Nat} {f g : Nat → Option (Nat × hp_C)} {h : HP} {x : Nat × hp_C} (hk : k < n) (hg : ∀ j, j < n → g j = if j = k then some x else f j) : hp_set (OV b n f h) (b + k) x = OV b n g h := by
  unfold hp_set OV
  dsimp only
  refine Prod.ext ?_ rfl
  funext q
  show (if q = b + k then some x else if b ≤ q ∧ q < b + n then f (q - b) else h.1 q) = if b ≤ q ∧ q < b + n then g (q - b) else h.1 q
  by_cases h1 : b ≤ q ∧ q < b + n
  · rw [if_pos h1, if_pos h1, hg (q - b) (by omega)]
    by_cases h2 : q = b + k
    · rw [if_pos h2, if_pos (by omega)]
    · rw [if_neg h2, if_neg (by omega)]
  · rw [if_neg h1, if_neg h1, if_neg (by omega)]
def upN {α : Type} (f : Nat → α) (k : Nat) (v : α) : Nat → α := fun j => if j = k then v else f j
/-- the reference's state: ints by their fields' numbers; arrays in the order of their making -/
abbrev TS : Type := (Nat → Int) × (Nat → Int → Int)
def tObj (b : Nat) (t : TS) : List hp_V := [.inr (.inl (some (b + 1))), .inr (.inl (some (b + 2))), .inr (.inl (some (b + 3))), .inr (.inl (some (b + 4))), .inr (.inl (some (b + 5))), .inr (.inl (some (b + 6))), .inl (t.1 6), .inl (t.1 7), .inr (.inl (some (b + 7))), .inr (.inl (some (b + 8))), .inr (.inl (some (b + 9))), .inr (.inl (some (b + 10))), .inl (t.1 12), .inl (t.1 13), .inl (t.1 14), .inl (t.1 15), .inl (t.1 16), .inl (t.1 17), .inl (t.1 18), .inl (t.1 19), .inl (t.1 20), .inl (t.1 21), .inr (.inl (some (b + 11))), .inr (.inl (some (b + 12))), .inr (.inl (some (b + 13))), .inr (.inl (some (b + 14))), .inr (.inl (some (b + 15))), .inr (.inl (some (b + 16))), .inr (.inl (some (b + 17))), .inl (t.1 29), .inl (t.1 30), .inl (t.1 31), .inr (.inl (some (b + 18))), .inl (t.1 33)]
def TB (b : Nat) (t : TS) : Nat → Option (Nat × hp_C) := fun k => match k with
  | 0 => some (b + 2, .inl (7, tObj b t))
  | 1 => some (b + 2, .inr (.int, 576, .inl (t.2 0)))
  | 2 => some (b + 2, .inr (.int, 576, .inl (t.2 1)))
  | 3 => some (b + 2, .inr (.int, 576, .inl (t.2 2)))
  | 4 => some (b + 2, .inr (.int, 4608, .inl (t.2 3)))
  | 5 => some (b + 2, .inr (.int, 1152, .inl (t.2 4)))
  | 6 => some (b + 2, .inr (.boolean, 2, .inl (t.2 5)))
  | 7 => some (b + 2, .inr (.int, 26, .inl (t.2 6)))
  | 8 => some (b + 2, .inr (.int, 26, .inl (t.2 7)))
  | 9 => some (b + 2, .inr (.int, 21, .inl (t.2 8)))
  | 10 => some (b + 2, .inr (.int, 600, .inl (t.2 9)))
  | 11 => some (b + 2, .inr (.int, 64, .inl (t.2 10)))
  | 12 => some (b + 2, .inr (.int, 64, .inl (t.2 11)))
  | 13 => some (b + 2, .inr (.int, 64, .inl (t.2 12)))
  | 14 => some (b + 2, .inr (.int, 64, .inl (t.2 13)))
  | 15 => some (b + 2, .inr (.int, 64, .inl (t.2 14)))
  | 16 => some (b + 2, .inr (.int, 2, .inl (t.2 15)))
  | 17 => some (b + 2, .inr (.int, 2, .inl (t.2 16)))
  | 18 => some (b + 2, .inr (.int, 1200, .inl (t.2 17)))
  | _ => none
def TH (b : Nat) (t : TS) (h : HP) : HP := OV b 19 (TB b t) h
theorem th_obj {b : Nat} {t : TS} {h : HP} : (TH b t h).1 b = some (b + 2, .inl (7, tObj b t)) := OV_at (k := 0) (by decide)
theorem th_k {b : Nat} {t : TS} {h : HP} : hp_k (TH b t h) = hp_k h := rfl
theorem th_n {b : Nat} {t : TS} {h : HP} : hp_n (TH b t h) = hp_n h := rfl
theorem th_s {b : Nat} {t : TS} {h : HP} : hp_s (TH b t h) = hp_s h := rfl
theorem th_c {b : Nat} {t : TS} {h : HP} : hp_c (TH b t h) = hp_c h := rfl
theorem th_out {b q : Nat} {t : TS} {h : HP} (hq : ¬ (b ≤ q ∧ q < b + 19)) : (TH b t h).1 q = h.1 q := OV_out hq
theorem th_rcv {b : Nat} {t : TS} {h : HP} : rcv (TH b t h) (some b) [7] = some b := by simp [rcv, clsOf, th_obj]
theorem th_w {b k : Nat} {t : TS} {h : HP} {z : Int} (e : (tObj b t).set k (.inl z) = tObj b (upN t.1 k z, t.2)) (hk : k < 34) : wrV (TH b t h) (some b) [7] k (.inl z) = some (TH b (upN t.1 k z, t.2) h) := by
  have hl : (tObj b t).length = 34 := rfl
  have hb : b + 2 ≠ 1 := by omega
  unfold wrV
  simp only [Option.bind_some, th_obj, hl, hk, List.mem_singleton, hb, ne_eq, not_false_eq_true, and_self, if_true]
  congr 1
  rw [e]
  refine OV_set (k := 0) (by decide) (fun j hj => ?_)
  match j with
  | 0 => rfl
  | 1 => rfl
  | 2 => rfl
  | 3 => rfl
  | 4 => rfl
  | 5 => rfl
  | 6 => rfl
  | 7 => rfl
  | 8 => rfl
  | 9 => rfl
  | 10 => rfl
  | 11 => rfl
  | 12 => rfl
  | 13 => rfl
  | 14 => rfl
  | 15 => rfl
  | 16 => rfl
  | 17 => rfl
  | 18 => rfl
  | j + 19 => exact absurd hj (by omega)
theorem th_a {b k j len : Nat} {t : TS} {h : HP} {ty : FieldType} {i : Int} (e : TB b t k = some (b + 2, .inr (ty, len, .inl (t.2 j)))) (hk : k < 19) (hl : len ≤ 2147483647) : aldI (TH b t h) ty (some (b + k)) i = if 0 ≤ i ∧ i < (len : Int) then some (t.2 j i) else none := by
  have e1 : (TH b t h).1 (b + k) = some (b + 2, .inr (ty, len, .inl (t.2 j))) := by rw [← e]; exact OV_at hk
  unfold aldI arr
  simp [e1, hl]
theorem th_al {b k j len : Nat} {t : TS} {h : HP} {ty : FieldType} (e : TB b t k = some (b + 2, .inr (ty, len, .inl (t.2 j)))) (hk : k < 19) : alen (TH b t h) (some (b + k)) = some (len : Int) := by
  have e1 : (TH b t h).1 (b + k) = some (b + 2, .inr (ty, len, .inl (t.2 j))) := by rw [← e]; exact OV_at hk
  unfold alen arr
  simp [e1]
theorem th_st {b k j len : Nat} {t : TS} {h : HP} {ty : FieldType} {i v : Int} (e : TB b t k = some (b + 2, .inr (ty, len, .inl (t.2 j)))) (hk : k < 19) (hl : len ≤ 2147483647) (e2 : ∀ q, q < 19 → TB b (t.1, upN t.2 j (upI (t.2 j) i v)) q = if q = k then some (b + 2, .inr (ty, len, .inl (upI (t.2 j) i v))) else TB b t q) : astI (TH b t h) ty (some (b + k)) i v = if 0 ≤ i ∧ i < (len : Int) then some (TH b (t.1, upN t.2 j (upI (t.2 j) i v)) h) else none := by
  have e1 : (TH b t h).1 (b + k) = some (b + 2, .inr (ty, len, .inl (t.2 j))) := by rw [← e]; exact OV_at hk
  have hb : b + 2 ≠ 1 := by omega
  unfold astI arr
  simp only [Option.bind_some, e1]
  by_cases g : 0 ≤ i ∧ i < (len : Int)
  · rw [if_pos ⟨trivial, g.1, g.2, hl, hb⟩, if_pos g]
    congr 1
    exact OV_set hk e2
  · rw [if_neg (fun z => g ⟨z.2.1, z.2.2.1⟩), if_neg g]
theorem th_R0 {b : Nat} {t : TS} {h : HP} : rdR (TH b t h) (some b) [7] 0 = some (some (b + 1)) := by simp [rdR, rdV, th_obj, tObj]
theorem th_R1 {b : Nat} {t : TS} {h : HP} : rdR (TH b t h) (some b) [7] 1 = some (some (b + 2)) := by simp [rdR, rdV, th_obj, tObj]
theorem th_R2 {b : Nat} {t : TS} {h : HP} : rdR (TH b t h) (some b) [7] 2 = some (some (b + 3)) := by simp [rdR, rdV, th_obj, tObj]
theorem th_R3 {b : Nat} {t : TS} {h : HP} : rdR (TH b t h) (some b) [7] 3 = some (some (b + 4)) := by simp [rdR, rdV, th_obj, tObj]
theorem th_R4 {b : Nat} {t : TS} {h : HP} : rdR (TH b t h) (some b) [7] 4 = some (some (b + 5)) := by simp [rdR, rdV, th_obj, tObj]
theorem th_R5 {b : Nat} {t : TS} {h : HP} : rdR (TH b t h) (some b) [7] 5 = some (some (b + 6)) := by simp [rdR, rdV, th_obj, tObj]
theorem th_I6 {b : Nat} {t : TS} {h : HP} : rdI (TH b t h) (some b) [7] 6 = some (t.1 6) := by simp [rdI, rdV, th_obj, tObj]
theorem th_W6 {b : Nat} {t : TS} {h : HP} {z : Int} : wrI (TH b t h) (some b) [7] 6 z = some (TH b (upN t.1 6 z, t.2) h) := th_w (by simp [tObj, upN]) (by decide)
theorem th_I7 {b : Nat} {t : TS} {h : HP} : rdI (TH b t h) (some b) [7] 7 = some (t.1 7) := by simp [rdI, rdV, th_obj, tObj]
theorem th_W7 {b : Nat} {t : TS} {h : HP} {z : Int} : wrI (TH b t h) (some b) [7] 7 z = some (TH b (upN t.1 7 z, t.2) h) := th_w (by simp [tObj, upN]) (by decide)
theorem th_R8 {b : Nat} {t : TS} {h : HP} : rdR (TH b t h) (some b) [7] 8 = some (some (b + 7)) := by simp [rdR, rdV, th_obj, tObj]
theorem th_R9 {b : Nat} {t : TS} {h : HP} : rdR (TH b t h) (some b) [7] 9 = some (some (b + 8)) := by simp [rdR, rdV, th_obj, tObj]
theorem th_R10 {b : Nat} {t : TS} {h : HP} : rdR (TH b t h) (some b) [7] 10 = some (some (b + 9)) := by simp [rdR, rdV, th_obj, tObj]
theorem th_R11 {b : Nat} {t : TS} {h : HP} : rdR (TH b t h) (some b) [7] 11 = some (some (b + 10)) := by simp [rdR, rdV, th_obj, tObj]
theorem th_I12 {b : Nat} {t : TS} {h : HP} : rdI (TH b t h) (some b) [7] 12 = some (t.1 12) := by simp [rdI, rdV, th_obj, tObj]
theorem th_W12 {b : Nat} {t : TS} {h : HP} {z : Int} : wrI (TH b t h) (some b) [7] 12 z = some (TH b (upN t.1 12 z, t.2) h) := th_w (by simp [tObj, upN]) (by decide)
theorem th_I13 {b : Nat} {t : TS} {h : HP} : rdI (TH b t h) (some b) [7] 13 = some (t.1 13) := by simp [rdI, rdV, th_obj, tObj]
theorem th_W13 {b : Nat} {t : TS} {h : HP} {z : Int} : wrI (TH b t h) (some b) [7] 13 z = some (TH b (upN t.1 13 z, t.2) h) := th_w (by simp [tObj, upN]) (by decide)
theorem th_I14 {b : Nat} {t : TS} {h : HP} : rdI (TH b t h) (some b) [7] 14 = some (t.1 14) := by simp [rdI, rdV, th_obj, tObj]
theorem th_W14 {b : Nat} {t : TS} {h : HP} {z : Int} : wrI (TH b t h) (some b) [7] 14 z = some (TH b (upN t.1 14 z, t.2) h) := th_w (by simp [tObj, upN]) (by decide)
theorem th_I15 {b : Nat} {t : TS} {h : HP} : rdI (TH b t h) (some b) [7] 15 = some (t.1 15) := by simp [rdI, rdV, th_obj, tObj]
theorem th_W15 {b : Nat} {t : TS} {h : HP} {z : Int} : wrI (TH b t h) (some b) [7] 15 z = some (TH b (upN t.1 15 z, t.2) h) := th_w (by simp [tObj, upN]) (by decide)
theorem th_I16 {b : Nat} {t : TS} {h : HP} : rdI (TH b t h) (some b) [7] 16 = some (t.1 16) := by simp [rdI, rdV, th_obj, tObj]
theorem th_W16 {b : Nat} {t : TS} {h : HP} {z : Int} : wrI (TH b t h) (some b) [7] 16 z = some (TH b (upN t.1 16 z, t.2) h) := th_w (by simp [tObj, upN]) (by decide)
theorem th_I17 {b : Nat} {t : TS} {h : HP} : rdI (TH b t h) (some b) [7] 17 = some (t.1 17) := by simp [rdI, rdV, th_obj, tObj]
theorem th_W17 {b : Nat} {t : TS} {h : HP} {z : Int} : wrI (TH b t h) (some b) [7] 17 z = some (TH b (upN t.1 17 z, t.2) h) := th_w (by simp [tObj, upN]) (by decide)
theorem th_I18 {b : Nat} {t : TS} {h : HP} : rdI (TH b t h) (some b) [7] 18 = some (t.1 18) := by simp [rdI, rdV, th_obj, tObj]
theorem th_W18 {b : Nat} {t : TS} {h : HP} {z : Int} : wrI (TH b t h) (some b) [7] 18 z = some (TH b (upN t.1 18 z, t.2) h) := th_w (by simp [tObj, upN]) (by decide)
theorem th_I19 {b : Nat} {t : TS} {h : HP} : rdI (TH b t h) (some b) [7] 19 = some (t.1 19) := by simp [rdI, rdV, th_obj, tObj]
theorem th_W19 {b : Nat} {t : TS} {h : HP} {z : Int} : wrI (TH b t h) (some b) [7] 19 z = some (TH b (upN t.1 19 z, t.2) h) := th_w (by simp [tObj, upN]) (by decide)
theorem th_I20 {b : Nat} {t : TS} {h : HP} : rdI (TH b t h) (some b) [7] 20 = some (t.1 20) := by simp [rdI, rdV, th_obj, tObj]
theorem th_W20 {b : Nat} {t : TS} {h : HP} {z : Int} : wrI (TH b t h) (some b) [7] 20 z = some (TH b (upN t.1 20 z, t.2) h) := th_w (by simp [tObj, upN]) (by decide)
theorem th_I21 {b : Nat} {t : TS} {h : HP} : rdI (TH b t h) (some b) [7] 21 = some (t.1 21) := by simp [rdI, rdV, th_obj, tObj]
theorem th_W21 {b : Nat} {t : TS} {h : HP} {z : Int} : wrZ (TH b t h) (some b) [7] 21 z = if z = 0 ∨ z = 1 then some (TH b (upN t.1 21 z, t.2) h) else none := by unfold wrZ; rw [th_w (by simp [tObj, upN]) (by decide)]
theorem th_R22 {b : Nat} {t : TS} {h : HP} : rdR (TH b t h) (some b) [7] 22 = some (some (b + 11)) := by simp [rdR, rdV, th_obj, tObj]
theorem th_R23 {b : Nat} {t : TS} {h : HP} : rdR (TH b t h) (some b) [7] 23 = some (some (b + 12)) := by simp [rdR, rdV, th_obj, tObj]
theorem th_R24 {b : Nat} {t : TS} {h : HP} : rdR (TH b t h) (some b) [7] 24 = some (some (b + 13)) := by simp [rdR, rdV, th_obj, tObj]
theorem th_R25 {b : Nat} {t : TS} {h : HP} : rdR (TH b t h) (some b) [7] 25 = some (some (b + 14)) := by simp [rdR, rdV, th_obj, tObj]
theorem th_R26 {b : Nat} {t : TS} {h : HP} : rdR (TH b t h) (some b) [7] 26 = some (some (b + 15)) := by simp [rdR, rdV, th_obj, tObj]
theorem th_R27 {b : Nat} {t : TS} {h : HP} : rdR (TH b t h) (some b) [7] 27 = some (some (b + 16)) := by simp [rdR, rdV, th_obj, tObj]
theorem th_R28 {b : Nat} {t : TS} {h : HP} : rdR (TH b t h) (some b) [7] 28 = some (some (b + 17)) := by simp [rdR, rdV, th_obj, tObj]
theorem th_I29 {b : Nat} {t : TS} {h : HP} : rdI (TH b t h) (some b) [7] 29 = some (t.1 29) := by simp [rdI, rdV, th_obj, tObj]
theorem th_W29 {b : Nat} {t : TS} {h : HP} {z : Int} : wrI (TH b t h) (some b) [7] 29 z = some (TH b (upN t.1 29 z, t.2) h) := th_w (by simp [tObj, upN]) (by decide)
theorem th_I30 {b : Nat} {t : TS} {h : HP} : rdI (TH b t h) (some b) [7] 30 = some (t.1 30) := by simp [rdI, rdV, th_obj, tObj]
theorem th_W30 {b : Nat} {t : TS} {h : HP} {z : Int} : wrI (TH b t h) (some b) [7] 30 z = some (TH b (upN t.1 30 z, t.2) h) := th_w (by simp [tObj, upN]) (by decide)
theorem th_I31 {b : Nat} {t : TS} {h : HP} : rdI (TH b t h) (some b) [7] 31 = some (t.1 31) := by simp [rdI, rdV, th_obj, tObj]
theorem th_W31 {b : Nat} {t : TS} {h : HP} {z : Int} : wrI (TH b t h) (some b) [7] 31 z = some (TH b (upN t.1 31 z, t.2) h) := th_w (by simp [tObj, upN]) (by decide)
theorem th_R32 {b : Nat} {t : TS} {h : HP} : rdR (TH b t h) (some b) [7] 32 = some (some (b + 18)) := by simp [rdR, rdV, th_obj, tObj]
theorem th_I33 {b : Nat} {t : TS} {h : HP} : rdI (TH b t h) (some b) [7] 33 = some (t.1 33) := by simp [rdI, rdV, th_obj, tObj]
theorem th_W33 {b : Nat} {t : TS} {h : HP} {z : Int} : wrI (TH b t h) (some b) [7] 33 z = some (TH b (upN t.1 33 z, t.2) h) := th_w (by simp [tObj, upN]) (by decide)
theorem th_A0 {b : Nat} {t : TS} {h : HP} {i : Int} : aldI (TH b t h) .int (some (b + 1)) i = if 0 ≤ i ∧ i < 576 then some (t.2 0 i) else none := th_a (k := 1) (len := 576) rfl (by decide) (by decide)
theorem th_L0 {b : Nat} {t : TS} {h : HP} : alen (TH b t h) (some (b + 1)) = some 576 := th_al (j := 0) (k := 1) (len := 576) rfl (by decide)
theorem th_S0 {b : Nat} {t : TS} {h : HP} {i v : Int} : astI (TH b t h) .int (some (b + 1)) i v = if 0 ≤ i ∧ i < 576 then some (TH b (t.1, upN t.2 0 (upI (t.2 0) i v)) h) else none := by
  refine th_st (k := 1) (j := 0) (len := 576) rfl (by decide) (by decide) (fun q hq => ?_)
  match q with
  | 0 => simp [TB, upN, tObj]
  | 1 => simp [TB, upN]
  | 2 => simp [TB, upN]
  | 3 => simp [TB, upN]
  | 4 => simp [TB, upN]
  | 5 => simp [TB, upN]
  | 6 => simp [TB, upN]
  | 7 => simp [TB, upN]
  | 8 => simp [TB, upN]
  | 9 => simp [TB, upN]
  | 10 => simp [TB, upN]
  | 11 => simp [TB, upN]
  | 12 => simp [TB, upN]
  | 13 => simp [TB, upN]
  | 14 => simp [TB, upN]
  | 15 => simp [TB, upN]
  | 16 => simp [TB, upN]
  | 17 => simp [TB, upN]
  | 18 => simp [TB, upN]
  | q + 19 => exact absurd hq (by omega)
theorem th_A1 {b : Nat} {t : TS} {h : HP} {i : Int} : aldI (TH b t h) .int (some (b + 2)) i = if 0 ≤ i ∧ i < 576 then some (t.2 1 i) else none := th_a (k := 2) (len := 576) rfl (by decide) (by decide)
theorem th_L1 {b : Nat} {t : TS} {h : HP} : alen (TH b t h) (some (b + 2)) = some 576 := th_al (j := 1) (k := 2) (len := 576) rfl (by decide)
theorem th_S1 {b : Nat} {t : TS} {h : HP} {i v : Int} : astI (TH b t h) .int (some (b + 2)) i v = if 0 ≤ i ∧ i < 576 then some (TH b (t.1, upN t.2 1 (upI (t.2 1) i v)) h) else none := by
  refine th_st (k := 2) (j := 1) (len := 576) rfl (by decide) (by decide) (fun q hq => ?_)
  match q with
  | 0 => simp [TB, upN, tObj]
  | 1 => simp [TB, upN]
  | 2 => simp [TB, upN]
  | 3 => simp [TB, upN]
  | 4 => simp [TB, upN]
  | 5 => simp [TB, upN]
  | 6 => simp [TB, upN]
  | 7 => simp [TB, upN]
  | 8 => simp [TB, upN]
  | 9 => simp [TB, upN]
  | 10 => simp [TB, upN]
  | 11 => simp [TB, upN]
  | 12 => simp [TB, upN]
  | 13 => simp [TB, upN]
  | 14 => simp [TB, upN]
  | 15 => simp [TB, upN]
  | 16 => simp [TB, upN]
  | 17 => simp [TB, upN]
  | 18 => simp [TB, upN]
  | q + 19 => exact absurd hq (by omega)
theorem th_A2 {b : Nat} {t : TS} {h : HP} {i : Int} : aldI (TH b t h) .int (some (b + 3)) i = if 0 ≤ i ∧ i < 576 then some (t.2 2 i) else none := th_a (k := 3) (len := 576) rfl (by decide) (by decide)
theorem th_L2 {b : Nat} {t : TS} {h : HP} : alen (TH b t h) (some (b + 3)) = some 576 := th_al (j := 2) (k := 3) (len := 576) rfl (by decide)
theorem th_S2 {b : Nat} {t : TS} {h : HP} {i v : Int} : astI (TH b t h) .int (some (b + 3)) i v = if 0 ≤ i ∧ i < 576 then some (TH b (t.1, upN t.2 2 (upI (t.2 2) i v)) h) else none := by
  refine th_st (k := 3) (j := 2) (len := 576) rfl (by decide) (by decide) (fun q hq => ?_)
  match q with
  | 0 => simp [TB, upN, tObj]
  | 1 => simp [TB, upN]
  | 2 => simp [TB, upN]
  | 3 => simp [TB, upN]
  | 4 => simp [TB, upN]
  | 5 => simp [TB, upN]
  | 6 => simp [TB, upN]
  | 7 => simp [TB, upN]
  | 8 => simp [TB, upN]
  | 9 => simp [TB, upN]
  | 10 => simp [TB, upN]
  | 11 => simp [TB, upN]
  | 12 => simp [TB, upN]
  | 13 => simp [TB, upN]
  | 14 => simp [TB, upN]
  | 15 => simp [TB, upN]
  | 16 => simp [TB, upN]
  | 17 => simp [TB, upN]
  | 18 => simp [TB, upN]
  | q + 19 => exact absurd hq (by omega)
theorem th_A3 {b : Nat} {t : TS} {h : HP} {i : Int} : aldI (TH b t h) .int (some (b + 4)) i = if 0 ≤ i ∧ i < 4608 then some (t.2 3 i) else none := th_a (k := 4) (len := 4608) rfl (by decide) (by decide)
theorem th_L3 {b : Nat} {t : TS} {h : HP} : alen (TH b t h) (some (b + 4)) = some 4608 := th_al (j := 3) (k := 4) (len := 4608) rfl (by decide)
theorem th_S3 {b : Nat} {t : TS} {h : HP} {i v : Int} : astI (TH b t h) .int (some (b + 4)) i v = if 0 ≤ i ∧ i < 4608 then some (TH b (t.1, upN t.2 3 (upI (t.2 3) i v)) h) else none := by
  refine th_st (k := 4) (j := 3) (len := 4608) rfl (by decide) (by decide) (fun q hq => ?_)
  match q with
  | 0 => simp [TB, upN, tObj]
  | 1 => simp [TB, upN]
  | 2 => simp [TB, upN]
  | 3 => simp [TB, upN]
  | 4 => simp [TB, upN]
  | 5 => simp [TB, upN]
  | 6 => simp [TB, upN]
  | 7 => simp [TB, upN]
  | 8 => simp [TB, upN]
  | 9 => simp [TB, upN]
  | 10 => simp [TB, upN]
  | 11 => simp [TB, upN]
  | 12 => simp [TB, upN]
  | 13 => simp [TB, upN]
  | 14 => simp [TB, upN]
  | 15 => simp [TB, upN]
  | 16 => simp [TB, upN]
  | 17 => simp [TB, upN]
  | 18 => simp [TB, upN]
  | q + 19 => exact absurd hq (by omega)
theorem th_A4 {b : Nat} {t : TS} {h : HP} {i : Int} : aldI (TH b t h) .int (some (b + 5)) i = if 0 ≤ i ∧ i < 1152 then some (t.2 4 i) else none := th_a (k := 5) (len := 1152) rfl (by decide) (by decide)
theorem th_L4 {b : Nat} {t : TS} {h : HP} : alen (TH b t h) (some (b + 5)) = some 1152 := th_al (j := 4) (k := 5) (len := 1152) rfl (by decide)
theorem th_S4 {b : Nat} {t : TS} {h : HP} {i v : Int} : astI (TH b t h) .int (some (b + 5)) i v = if 0 ≤ i ∧ i < 1152 then some (TH b (t.1, upN t.2 4 (upI (t.2 4) i v)) h) else none := by
  refine th_st (k := 5) (j := 4) (len := 1152) rfl (by decide) (by decide) (fun q hq => ?_)
  match q with
  | 0 => simp [TB, upN, tObj]
  | 1 => simp [TB, upN]
  | 2 => simp [TB, upN]
  | 3 => simp [TB, upN]
  | 4 => simp [TB, upN]
  | 5 => simp [TB, upN]
  | 6 => simp [TB, upN]
  | 7 => simp [TB, upN]
  | 8 => simp [TB, upN]
  | 9 => simp [TB, upN]
  | 10 => simp [TB, upN]
  | 11 => simp [TB, upN]
  | 12 => simp [TB, upN]
  | 13 => simp [TB, upN]
  | 14 => simp [TB, upN]
  | 15 => simp [TB, upN]
  | 16 => simp [TB, upN]
  | 17 => simp [TB, upN]
  | 18 => simp [TB, upN]
  | q + 19 => exact absurd hq (by omega)
theorem th_A5 {b : Nat} {t : TS} {h : HP} {i : Int} : aldI (TH b t h) .boolean (some (b + 6)) i = if 0 ≤ i ∧ i < 2 then some (t.2 5 i) else none := th_a (k := 6) (len := 2) rfl (by decide) (by decide)
theorem th_L5 {b : Nat} {t : TS} {h : HP} : alen (TH b t h) (some (b + 6)) = some 2 := th_al (j := 5) (k := 6) (len := 2) rfl (by decide)
theorem th_S5 {b : Nat} {t : TS} {h : HP} {i v : Int} : astI (TH b t h) .boolean (some (b + 6)) i v = if 0 ≤ i ∧ i < 2 then some (TH b (t.1, upN t.2 5 (upI (t.2 5) i v)) h) else none := by
  refine th_st (k := 6) (j := 5) (len := 2) rfl (by decide) (by decide) (fun q hq => ?_)
  match q with
  | 0 => simp [TB, upN, tObj]
  | 1 => simp [TB, upN]
  | 2 => simp [TB, upN]
  | 3 => simp [TB, upN]
  | 4 => simp [TB, upN]
  | 5 => simp [TB, upN]
  | 6 => simp [TB, upN]
  | 7 => simp [TB, upN]
  | 8 => simp [TB, upN]
  | 9 => simp [TB, upN]
  | 10 => simp [TB, upN]
  | 11 => simp [TB, upN]
  | 12 => simp [TB, upN]
  | 13 => simp [TB, upN]
  | 14 => simp [TB, upN]
  | 15 => simp [TB, upN]
  | 16 => simp [TB, upN]
  | 17 => simp [TB, upN]
  | 18 => simp [TB, upN]
  | q + 19 => exact absurd hq (by omega)
theorem th_A6 {b : Nat} {t : TS} {h : HP} {i : Int} : aldI (TH b t h) .int (some (b + 7)) i = if 0 ≤ i ∧ i < 26 then some (t.2 6 i) else none := th_a (k := 7) (len := 26) rfl (by decide) (by decide)
theorem th_L6 {b : Nat} {t : TS} {h : HP} : alen (TH b t h) (some (b + 7)) = some 26 := th_al (j := 6) (k := 7) (len := 26) rfl (by decide)
theorem th_S6 {b : Nat} {t : TS} {h : HP} {i v : Int} : astI (TH b t h) .int (some (b + 7)) i v = if 0 ≤ i ∧ i < 26 then some (TH b (t.1, upN t.2 6 (upI (t.2 6) i v)) h) else none := by
  refine th_st (k := 7) (j := 6) (len := 26) rfl (by decide) (by decide) (fun q hq => ?_)
  match q with
  | 0 => simp [TB, upN, tObj]
  | 1 => simp [TB, upN]
  | 2 => simp [TB, upN]
  | 3 => simp [TB, upN]
  | 4 => simp [TB, upN]
  | 5 => simp [TB, upN]
  | 6 => simp [TB, upN]
  | 7 => simp [TB, upN]
  | 8 => simp [TB, upN]
  | 9 => simp [TB, upN]
  | 10 => simp [TB, upN]
  | 11 => simp [TB, upN]
  | 12 => simp [TB, upN]
  | 13 => simp [TB, upN]
  | 14 => simp [TB, upN]
  | 15 => simp [TB, upN]
  | 16 => simp [TB, upN]
  | 17 => simp [TB, upN]
  | 18 => simp [TB, upN]
  | q + 19 => exact absurd hq (by omega)
theorem th_A7 {b : Nat} {t : TS} {h : HP} {i : Int} : aldI (TH b t h) .int (some (b + 8)) i = if 0 ≤ i ∧ i < 26 then some (t.2 7 i) else none := th_a (k := 8) (len := 26) rfl (by decide) (by decide)
theorem th_L7 {b : Nat} {t : TS} {h : HP} : alen (TH b t h) (some (b + 8)) = some 26 := th_al (j := 7) (k := 8) (len := 26) rfl (by decide)
theorem th_S7 {b : Nat} {t : TS} {h : HP} {i v : Int} : astI (TH b t h) .int (some (b + 8)) i v = if 0 ≤ i ∧ i < 26 then some (TH b (t.1, upN t.2 7 (upI (t.2 7) i v)) h) else none := by
  refine th_st (k := 8) (j := 7) (len := 26) rfl (by decide) (by decide) (fun q hq => ?_)
  match q with
  | 0 => simp [TB, upN, tObj]
  | 1 => simp [TB, upN]
  | 2 => simp [TB, upN]
  | 3 => simp [TB, upN]
  | 4 => simp [TB, upN]
  | 5 => simp [TB, upN]
  | 6 => simp [TB, upN]
  | 7 => simp [TB, upN]
  | 8 => simp [TB, upN]
  | 9 => simp [TB, upN]
  | 10 => simp [TB, upN]
  | 11 => simp [TB, upN]
  | 12 => simp [TB, upN]
  | 13 => simp [TB, upN]
  | 14 => simp [TB, upN]
  | 15 => simp [TB, upN]
  | 16 => simp [TB, upN]
  | 17 => simp [TB, upN]
  | 18 => simp [TB, upN]
  | q + 19 => exact absurd hq (by omega)
theorem th_A8 {b : Nat} {t : TS} {h : HP} {i : Int} : aldI (TH b t h) .int (some (b + 9)) i = if 0 ≤ i ∧ i < 21 then some (t.2 8 i) else none := th_a (k := 9) (len := 21) rfl (by decide) (by decide)
theorem th_L8 {b : Nat} {t : TS} {h : HP} : alen (TH b t h) (some (b + 9)) = some 21 := th_al (j := 8) (k := 9) (len := 21) rfl (by decide)
theorem th_S8 {b : Nat} {t : TS} {h : HP} {i v : Int} : astI (TH b t h) .int (some (b + 9)) i v = if 0 ≤ i ∧ i < 21 then some (TH b (t.1, upN t.2 8 (upI (t.2 8) i v)) h) else none := by
  refine th_st (k := 9) (j := 8) (len := 21) rfl (by decide) (by decide) (fun q hq => ?_)
  match q with
  | 0 => simp [TB, upN, tObj]
  | 1 => simp [TB, upN]
  | 2 => simp [TB, upN]
  | 3 => simp [TB, upN]
  | 4 => simp [TB, upN]
  | 5 => simp [TB, upN]
  | 6 => simp [TB, upN]
  | 7 => simp [TB, upN]
  | 8 => simp [TB, upN]
  | 9 => simp [TB, upN]
  | 10 => simp [TB, upN]
  | 11 => simp [TB, upN]
  | 12 => simp [TB, upN]
  | 13 => simp [TB, upN]
  | 14 => simp [TB, upN]
  | 15 => simp [TB, upN]
  | 16 => simp [TB, upN]
  | 17 => simp [TB, upN]
  | 18 => simp [TB, upN]
  | q + 19 => exact absurd hq (by omega)
theorem th_A9 {b : Nat} {t : TS} {h : HP} {i : Int} : aldI (TH b t h) .int (some (b + 10)) i = if 0 ≤ i ∧ i < 600 then some (t.2 9 i) else none := th_a (k := 10) (len := 600) rfl (by decide) (by decide)
theorem th_L9 {b : Nat} {t : TS} {h : HP} : alen (TH b t h) (some (b + 10)) = some 600 := th_al (j := 9) (k := 10) (len := 600) rfl (by decide)
theorem th_S9 {b : Nat} {t : TS} {h : HP} {i v : Int} : astI (TH b t h) .int (some (b + 10)) i v = if 0 ≤ i ∧ i < 600 then some (TH b (t.1, upN t.2 9 (upI (t.2 9) i v)) h) else none := by
  refine th_st (k := 10) (j := 9) (len := 600) rfl (by decide) (by decide) (fun q hq => ?_)
  match q with
  | 0 => simp [TB, upN, tObj]
  | 1 => simp [TB, upN]
  | 2 => simp [TB, upN]
  | 3 => simp [TB, upN]
  | 4 => simp [TB, upN]
  | 5 => simp [TB, upN]
  | 6 => simp [TB, upN]
  | 7 => simp [TB, upN]
  | 8 => simp [TB, upN]
  | 9 => simp [TB, upN]
  | 10 => simp [TB, upN]
  | 11 => simp [TB, upN]
  | 12 => simp [TB, upN]
  | 13 => simp [TB, upN]
  | 14 => simp [TB, upN]
  | 15 => simp [TB, upN]
  | 16 => simp [TB, upN]
  | 17 => simp [TB, upN]
  | 18 => simp [TB, upN]
  | q + 19 => exact absurd hq (by omega)
theorem th_A10 {b : Nat} {t : TS} {h : HP} {i : Int} : aldI (TH b t h) .int (some (b + 11)) i = if 0 ≤ i ∧ i < 64 then some (t.2 10 i) else none := th_a (k := 11) (len := 64) rfl (by decide) (by decide)
theorem th_L10 {b : Nat} {t : TS} {h : HP} : alen (TH b t h) (some (b + 11)) = some 64 := th_al (j := 10) (k := 11) (len := 64) rfl (by decide)
theorem th_S10 {b : Nat} {t : TS} {h : HP} {i v : Int} : astI (TH b t h) .int (some (b + 11)) i v = if 0 ≤ i ∧ i < 64 then some (TH b (t.1, upN t.2 10 (upI (t.2 10) i v)) h) else none := by
  refine th_st (k := 11) (j := 10) (len := 64) rfl (by decide) (by decide) (fun q hq => ?_)
  match q with
  | 0 => simp [TB, upN, tObj]
  | 1 => simp [TB, upN]
  | 2 => simp [TB, upN]
  | 3 => simp [TB, upN]
  | 4 => simp [TB, upN]
  | 5 => simp [TB, upN]
  | 6 => simp [TB, upN]
  | 7 => simp [TB, upN]
  | 8 => simp [TB, upN]
  | 9 => simp [TB, upN]
  | 10 => simp [TB, upN]
  | 11 => simp [TB, upN]
  | 12 => simp [TB, upN]
  | 13 => simp [TB, upN]
  | 14 => simp [TB, upN]
  | 15 => simp [TB, upN]
  | 16 => simp [TB, upN]
  | 17 => simp [TB, upN]
  | 18 => simp [TB, upN]
  | q + 19 => exact absurd hq (by omega)
theorem th_A11 {b : Nat} {t : TS} {h : HP} {i : Int} : aldI (TH b t h) .int (some (b + 12)) i = if 0 ≤ i ∧ i < 64 then some (t.2 11 i) else none := th_a (k := 12) (len := 64) rfl (by decide) (by decide)
theorem th_L11 {b : Nat} {t : TS} {h : HP} : alen (TH b t h) (some (b + 12)) = some 64 := th_al (j := 11) (k := 12) (len := 64) rfl (by decide)
theorem th_S11 {b : Nat} {t : TS} {h : HP} {i v : Int} : astI (TH b t h) .int (some (b + 12)) i v = if 0 ≤ i ∧ i < 64 then some (TH b (t.1, upN t.2 11 (upI (t.2 11) i v)) h) else none := by
  refine th_st (k := 12) (j := 11) (len := 64) rfl (by decide) (by decide) (fun q hq => ?_)
  match q with
  | 0 => simp [TB, upN, tObj]
  | 1 => simp [TB, upN]
  | 2 => simp [TB, upN]
  | 3 => simp [TB, upN]
  | 4 => simp [TB, upN]
  | 5 => simp [TB, upN]
  | 6 => simp [TB, upN]
  | 7 => simp [TB, upN]
  | 8 => simp [TB, upN]
  | 9 => simp [TB, upN]
  | 10 => simp [TB, upN]
  | 11 => simp [TB, upN]
  | 12 => simp [TB, upN]
  | 13 => simp [TB, upN]
  | 14 => simp [TB, upN]
  | 15 => simp [TB, upN]
  | 16 => simp [TB, upN]
  | 17 => simp [TB, upN]
  | 18 => simp [TB, upN]
  | q + 19 => exact absurd hq (by omega)
theorem th_A12 {b : Nat} {t : TS} {h : HP} {i : Int} : aldI (TH b t h) .int (some (b + 13)) i = if 0 ≤ i ∧ i < 64 then some (t.2 12 i) else none := th_a (k := 13) (len := 64) rfl (by decide) (by decide)
theorem th_L12 {b : Nat} {t : TS} {h : HP} : alen (TH b t h) (some (b + 13)) = some 64 := th_al (j := 12) (k := 13) (len := 64) rfl (by decide)
theorem th_S12 {b : Nat} {t : TS} {h : HP} {i v : Int} : astI (TH b t h) .int (some (b + 13)) i v = if 0 ≤ i ∧ i < 64 then some (TH b (t.1, upN t.2 12 (upI (t.2 12) i v)) h) else none := by
  refine th_st (k := 13) (j := 12) (len := 64) rfl (by decide) (by decide) (fun q hq => ?_)
  match q with
  | 0 => simp [TB, upN, tObj]
  | 1 => simp [TB, upN]
  | 2 => simp [TB, upN]
  | 3 => simp [TB, upN]
  | 4 => simp [TB, upN]
  | 5 => simp [TB, upN]
  | 6 => simp [TB, upN]
  | 7 => simp [TB, upN]
  | 8 => simp [TB, upN]
  | 9 => simp [TB, upN]
  | 10 => simp [TB, upN]
  | 11 => simp [TB, upN]
  | 12 => simp [TB, upN]
  | 13 => simp [TB, upN]
  | 14 => simp [TB, upN]
  | 15 => simp [TB, upN]
  | 16 => simp [TB, upN]
  | 17 => simp [TB, upN]
  | 18 => simp [TB, upN]
  | q + 19 => exact absurd hq (by omega)
theorem th_A13 {b : Nat} {t : TS} {h : HP} {i : Int} : aldI (TH b t h) .int (some (b + 14)) i = if 0 ≤ i ∧ i < 64 then some (t.2 13 i) else none := th_a (k := 14) (len := 64) rfl (by decide) (by decide)
theorem th_L13 {b : Nat} {t : TS} {h : HP} : alen (TH b t h) (some (b + 14)) = some 64 := th_al (j := 13) (k := 14) (len := 64) rfl (by decide)
theorem th_S13 {b : Nat} {t : TS} {h : HP} {i v : Int} : astI (TH b t h) .int (some (b + 14)) i v = if 0 ≤ i ∧ i < 64 then some (TH b (t.1, upN t.2 13 (upI (t.2 13) i v)) h) else none := by
  refine th_st (k := 14) (j := 13) (len := 64) rfl (by decide) (by decide) (fun q hq => ?_)
  match q with
  | 0 => simp [TB, upN, tObj]
  | 1 => simp [TB, upN]
  | 2 => simp [TB, upN]
  | 3 => simp [TB, upN]
  | 4 => simp [TB, upN]
  | 5 => simp [TB, upN]
  | 6 => simp [TB, upN]
  | 7 => simp [TB, upN]
  | 8 => simp [TB, upN]
  | 9 => simp [TB, upN]
  | 10 => simp [TB, upN]
  | 11 => simp [TB, upN]
  | 12 => simp [TB, upN]
  | 13 => simp [TB, upN]
  | 14 => simp [TB, upN]
  | 15 => simp [TB, upN]
  | 16 => simp [TB, upN]
  | 17 => simp [TB, upN]
  | 18 => simp [TB, upN]
  | q + 19 => exact absurd hq (by omega)
theorem th_A14 {b : Nat} {t : TS} {h : HP} {i : Int} : aldI (TH b t h) .int (some (b + 15)) i = if 0 ≤ i ∧ i < 64 then some (t.2 14 i) else none := th_a (k := 15) (len := 64) rfl (by decide) (by decide)
theorem th_L14 {b : Nat} {t : TS} {h : HP} : alen (TH b t h) (some (b + 15)) = some 64 := th_al (j := 14) (k := 15) (len := 64) rfl (by decide)
theorem th_S14 {b : Nat} {t : TS} {h : HP} {i v : Int} : astI (TH b t h) .int (some (b + 15)) i v = if 0 ≤ i ∧ i < 64 then some (TH b (t.1, upN t.2 14 (upI (t.2 14) i v)) h) else none := by
  refine th_st (k := 15) (j := 14) (len := 64) rfl (by decide) (by decide) (fun q hq => ?_)
  match q with
  | 0 => simp [TB, upN, tObj]
  | 1 => simp [TB, upN]
  | 2 => simp [TB, upN]
  | 3 => simp [TB, upN]
  | 4 => simp [TB, upN]
  | 5 => simp [TB, upN]
  | 6 => simp [TB, upN]
  | 7 => simp [TB, upN]
  | 8 => simp [TB, upN]
  | 9 => simp [TB, upN]
  | 10 => simp [TB, upN]
  | 11 => simp [TB, upN]
  | 12 => simp [TB, upN]
  | 13 => simp [TB, upN]
  | 14 => simp [TB, upN]
  | 15 => simp [TB, upN]
  | 16 => simp [TB, upN]
  | 17 => simp [TB, upN]
  | 18 => simp [TB, upN]
  | q + 19 => exact absurd hq (by omega)
theorem th_A15 {b : Nat} {t : TS} {h : HP} {i : Int} : aldI (TH b t h) .int (some (b + 16)) i = if 0 ≤ i ∧ i < 2 then some (t.2 15 i) else none := th_a (k := 16) (len := 2) rfl (by decide) (by decide)
theorem th_L15 {b : Nat} {t : TS} {h : HP} : alen (TH b t h) (some (b + 16)) = some 2 := th_al (j := 15) (k := 16) (len := 2) rfl (by decide)
theorem th_S15 {b : Nat} {t : TS} {h : HP} {i v : Int} : astI (TH b t h) .int (some (b + 16)) i v = if 0 ≤ i ∧ i < 2 then some (TH b (t.1, upN t.2 15 (upI (t.2 15) i v)) h) else none := by
  refine th_st (k := 16) (j := 15) (len := 2) rfl (by decide) (by decide) (fun q hq => ?_)
  match q with
  | 0 => simp [TB, upN, tObj]
  | 1 => simp [TB, upN]
  | 2 => simp [TB, upN]
  | 3 => simp [TB, upN]
  | 4 => simp [TB, upN]
  | 5 => simp [TB, upN]
  | 6 => simp [TB, upN]
  | 7 => simp [TB, upN]
  | 8 => simp [TB, upN]
  | 9 => simp [TB, upN]
  | 10 => simp [TB, upN]
  | 11 => simp [TB, upN]
  | 12 => simp [TB, upN]
  | 13 => simp [TB, upN]
  | 14 => simp [TB, upN]
  | 15 => simp [TB, upN]
  | 16 => simp [TB, upN]
  | 17 => simp [TB, upN]
  | 18 => simp [TB, upN]
  | q + 19 => exact absurd hq (by omega)
theorem th_A16 {b : Nat} {t : TS} {h : HP} {i : Int} : aldI (TH b t h) .int (some (b + 17)) i = if 0 ≤ i ∧ i < 2 then some (t.2 16 i) else none := th_a (k := 17) (len := 2) rfl (by decide) (by decide)
theorem th_L16 {b : Nat} {t : TS} {h : HP} : alen (TH b t h) (some (b + 17)) = some 2 := th_al (j := 16) (k := 17) (len := 2) rfl (by decide)
theorem th_S16 {b : Nat} {t : TS} {h : HP} {i v : Int} : astI (TH b t h) .int (some (b + 17)) i v = if 0 ≤ i ∧ i < 2 then some (TH b (t.1, upN t.2 16 (upI (t.2 16) i v)) h) else none := by
  refine th_st (k := 17) (j := 16) (len := 2) rfl (by decide) (by decide) (fun q hq => ?_)
  match q with
  | 0 => simp [TB, upN, tObj]
  | 1 => simp [TB, upN]
  | 2 => simp [TB, upN]
  | 3 => simp [TB, upN]
  | 4 => simp [TB, upN]
  | 5 => simp [TB, upN]
  | 6 => simp [TB, upN]
  | 7 => simp [TB, upN]
  | 8 => simp [TB, upN]
  | 9 => simp [TB, upN]
  | 10 => simp [TB, upN]
  | 11 => simp [TB, upN]
  | 12 => simp [TB, upN]
  | 13 => simp [TB, upN]
  | 14 => simp [TB, upN]
  | 15 => simp [TB, upN]
  | 16 => simp [TB, upN]
  | 17 => simp [TB, upN]
  | 18 => simp [TB, upN]
  | q + 19 => exact absurd hq (by omega)
theorem th_A17 {b : Nat} {t : TS} {h : HP} {i : Int} : aldI (TH b t h) .int (some (b + 18)) i = if 0 ≤ i ∧ i < 1200 then some (t.2 17 i) else none := th_a (k := 18) (len := 1200) rfl (by decide) (by decide)
theorem th_L17 {b : Nat} {t : TS} {h : HP} : alen (TH b t h) (some (b + 18)) = some 1200 := th_al (j := 17) (k := 18) (len := 1200) rfl (by decide)
theorem th_S17 {b : Nat} {t : TS} {h : HP} {i v : Int} : astI (TH b t h) .int (some (b + 18)) i v = if 0 ≤ i ∧ i < 1200 then some (TH b (t.1, upN t.2 17 (upI (t.2 17) i v)) h) else none := by
  refine th_st (k := 18) (j := 17) (len := 1200) rfl (by decide) (by decide) (fun q hq => ?_)
  match q with
  | 0 => simp [TB, upN, tObj]
  | 1 => simp [TB, upN]
  | 2 => simp [TB, upN]
  | 3 => simp [TB, upN]
  | 4 => simp [TB, upN]
  | 5 => simp [TB, upN]
  | 6 => simp [TB, upN]
  | 7 => simp [TB, upN]
  | 8 => simp [TB, upN]
  | 9 => simp [TB, upN]
  | 10 => simp [TB, upN]
  | 11 => simp [TB, upN]
  | 12 => simp [TB, upN]
  | 13 => simp [TB, upN]
  | 14 => simp [TB, upN]
  | 15 => simp [TB, upN]
  | 16 => simp [TB, upN]
  | 17 => simp [TB, upN]
  | 18 => simp [TB, upN]
  | q + 19 => exact absurd hq (by omega)
