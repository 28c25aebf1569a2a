/-! STAGE 2h: what both show: text, firm letters, patterns, marks, accounts; and what is done with it. -/
set_option maxRecDepth 100000
/-- n; text; firm; how many patterns; their lengths; their letters; marks (pattern, place); accounts -/
abbrev SK : Type := Int × (Int → Int) × Int × Int × (Int → Int) × (Int → Int → Int) × List (Int × Int) × (Int → Int)
abbrev kn (K : SK) : Int := K.1
abbrev kt (K : SK) : Int → Int := K.2.1
abbrev kf (K : SK) : Int := K.2.2.1
abbrev kp (K : SK) : Int := K.2.2.2.1
abbrev kl (K : SK) : Int → Int := K.2.2.2.2.1
abbrev kr (K : SK) : Int → Int → Int := K.2.2.2.2.2.1
abbrev km (K : SK) : List (Int × Int) := K.2.2.2.2.2.2.1
abbrev ka (K : SK) : Int → Int := K.2.2.2.2.2.2.2
/-- the same, as far as it can be seen -/
def kEq (K K' : SK) : Prop := kn K' = kn K ∧ kf K' = kf K ∧ kp K' = kp K ∧ km K' = km K ∧ (∀ k, 0 ≤ k → k < kn K → kt K' k = kt K k) ∧ (∀ p, 0 ≤ p → p < kp K → kl K' p = kl K p) ∧ (∀ p k, 0 ≤ p → p < kp K → 0 ≤ k → k < kl K p → kr K' p k = kr K p k) ∧ ∀ a, 0 ≤ a → a < 8 → ka K' a = ka K a
theorem kEq.refl (K : SK) : kEq K K := ⟨rfl, rfl, rfl, rfl, fun _ _ _ => rfl, fun _ _ _ => rfl, fun _ _ _ _ _ _ => rfl, fun _ _ _ => rfl⟩
theorem kEq.symm {K K' : SK} (h : kEq K K') : kEq K' K := by
  obtain ⟨h1, h2, h3, h4, h5, h6, h7, h8⟩ := h
  refine ⟨h1.symm, h2.symm, h3.symm, h4.symm, fun k a b => (h5 k a (by omega)).symm, fun p a b => (h6 p a (by omega)).symm, fun p k a b c d => ?_, fun a b c => (h8 a b c).symm⟩
  have := h6 p a (by omega)
  exact (h7 p k a (by omega) c (by omega)).symm
theorem kEq.trans {A B C : SK} (h : kEq A B) (g : kEq B C) : kEq A C := by
  obtain ⟨h1, h2, h3, h4, h5, h6, h7, h8⟩ := h
  obtain ⟨g1, g2, g3, g4, g5, g6, g7, g8⟩ := g
  refine ⟨g1.trans h1, g2.trans h2, g3.trans h3, g4.trans h4, fun k a b => (g5 k a (by omega)).trans (h5 k a b), fun p a b => (g6 p a (by omega)).trans (h6 p a b), fun p k a b c d => ?_, fun a b c => (g8 a b c).trans (h8 a b c)⟩
  have := h6 p a b
  exact (g7 p k a (by omega) c (by omega)).trans (h7 p k a b c d)
/-- in range -/
def kOK (K : SK) : Prop := (1 ≤ kn K ∧ kn K ≤ 200) ∧ (0 ≤ kf K ∧ kf K ≤ 26) ∧ (0 ≤ kp K ∧ kp K ≤ 8) ∧ (km K).length ≤ 60 ∧ (∀ k, 0 ≤ k → k < kn K → 0 ≤ kt K k ∧ kt K k < 26) ∧ (∀ p, 0 ≤ p → p < kp K → 1 ≤ kl K p ∧ kl K p ≤ 20) ∧
  (∀ p k, 0 ≤ p → p < kp K → 0 ≤ k → k < kl K p → 0 ≤ kr K p k ∧ kr K p k < 26) ∧ ∀ m ∈ km K, (0 ≤ m.1 ∧ m.1 < kp K) ∧ 0 ≤ m.2 ∧ m.2 < 1000
theorem kOK_eq {K K' : SK} (h : kEq K K') (hk : kOK K) : kOK K' := by
  obtain ⟨h1, h2, h3, h4, h5, h6, h7, h8⟩ := h
  obtain ⟨g1, g2, g3, g4, g5, g6, g7, g8⟩ := hk
  refine ⟨by rw [h1]; exact g1, by rw [h2]; exact g2, by rw [h3]; exact g3, by rw [h4]; exact g4, fun k a b => ?_, fun p a b => ?_, fun p k a b c d => ?_, fun m hm => ?_⟩
  · rw [h1] at b; rw [h5 k a b]; exact g5 k a b
  · rw [h3] at b; rw [h6 p a b]; exact g6 p a b
  · rw [h3] at b; rw [h6 p a b] at d; rw [h7 p k a b c d]; exact g7 p k a b c d
  · rw [h4] at hm; rw [h3]; exact g8 m hm
def kw (K : SK) (q : Int) : Int → Int := fun j => kt K (q + j)
def kMt (K : SK) (p q : Int) : Int := al (kr K p) (kw K q) (kf K) (min (kl K p) (kn K - q))
def kTh (K : SK) (p q : Int) : Bool := decide (q < kn K ∧ kMt K p q = kl K p)
theorem kMt_eq {K K' : SK} (h : kEq K K') {p q : Int} (hp : 0 ≤ p) (hp2 : p < kp K) (hq : 0 ≤ q) : kMt K' p q = kMt K p q := by
  obtain ⟨h1, h2, h3, h4, h5, h6, h7, h8⟩ := h
  unfold kMt
  rw [h1, h2, h6 p hp hp2]
  refine al_congr (fun k a b => h7 p k hp hp2 a (by omega)) (fun k a b => h5 (q + k) (by omega) (by omega))
theorem kTh_eq {K K' : SK} (h : kEq K K') {p q : Int} (hp : 0 ≤ p) (hp2 : p < kp K) (hq : 0 ≤ q) : kTh K' p q = kTh K p q := by
  unfold kTh
  rw [kMt_eq h hp hp2 hq, h.1, h.2.2.2.2.2.1 p hp hp2]
def kHits (K : SK) (p : Int) : Int := cnt (fun q => kTh K p q) 0 (kn K).toNat
theorem kHits_eq {K K' : SK} (h : kEq K K') {p : Int} (hp : 0 ≤ p) (hp2 : p < kp K) : kHits K' p = kHits K p := by
  unfold kHits
  rw [h.1]
  exact cnt_congr fun q a b => kTh_eq h hp hp2 a
/-- the reference's row as such -/
def kMl (w : Int → Int) : List (Int × Int) := (List.range (w 3).toNat).map fun (i : Nat) => (w (456 + 2 * (i : Int) + 1), w (456 + 2 * (i : Int)))
def kOf (w : Int → Int) : SK := (w 1, fun k => w (16 + k), w 0, w 2, fun p => w (216 + 30 * p), fun p k => w (216 + 30 * p + 10 + k), kMl w, fun a => w (4 + a))
theorem kMl_ml {t : TS} : kMl (t.2 0) = ml t := rfl
theorem kOf_there {t : TS} {p q : Int} : there t p q = kTh (kOf (t.2 0)) p q := by
  unfold there mt kTh kMt pt tx ln kOf kw kn kf kl kr kt
  dsimp only
  simp only [Int.add_assoc]
theorem kOf_hits {t : TS} {p : Int} : hits t p = kHits (kOf (t.2 0)) p := by
  unfold hits kHits
  simp only [kOf_there]
  rfl
/-- all that the reference's row is asked to be -/
def tGd (t : TS) : Prop := tIn t ∧ kOK (kOf (t.2 0))
theorem tGd.ok {t : TS} (h : tGd t) (h3 : 0 ≤ t.2 0 3) : tOK t := by
  obtain ⟨h1, g1, g2, g3, g4, g5, g6, g7, g8⟩ := h
  refine ⟨h1, g2, g1, g3, ⟨h3, ?_⟩, g6⟩
  have : (kMl (t.2 0)).length ≤ 60 := g4
  unfold kMl at this
  rw [List.length_map, List.length_range] at this
  omega
theorem tGd.lt {t : TS} (h : tGd t) : tLt t := ⟨h.2.2.2.2.2.1, fun p k a b c d => h.2.2.2.2.2.2.2.1 p k a b c d⟩
theorem tGd.mk {t : TS} (h : tGd t) : tMk t := fun m hm => h.2.2.2.2.2.2.2.2 m hm
/-- marks that are right any more -/
def kCl (K : SK) : SK := (kn K, kt K, kf K, kp K, kl K, kr K, clr (fun m => kTh K m.1 m.2) [] (km K), upI (ka K) 4 (ka K 4 + ((km K).length - (clr (fun m => kTh K m.1 m.2) [] (km K)).length)))
theorem clr_congr {g g' : Int × Int → Bool} {kept l : List (Int × Int)} (h : ∀ m ∈ l, g m = g' m) : clr g kept l = clr g' kept l := by
  induction l generalizing kept with
  | nil => rfl
  | cons m r ih =>
    unfold clr
    rw [h m List.mem_cons_self, ih (fun m hm => h m (List.mem_cons_of_mem _ hm)), ih (fun m hm => h m (List.mem_cons_of_mem _ hm))]
theorem kCl_eq {K K' : SK} (h : kEq K K') (hk : kOK K) : kEq (kCl K) (kCl K') := by
  have e : clr (fun m => kTh K' m.1 m.2) [] (km K') = clr (fun m => kTh K m.1 m.2) [] (km K) := by
    rw [h.2.2.2.1]
    refine clr_congr fun m hm => ?_
    obtain ⟨⟨a, b⟩, c, d⟩ := hk.2.2.2.2.2.2.2 m hm
    exact kTh_eq h a b c
  obtain ⟨h1, h2, h3, h4, h5, h6, h7, h8⟩ := h
  refine ⟨h1, h2, h3, e, h5, h6, h7, fun a b c => ?_⟩
  show upI (ka K') 4 _ a = upI (ka K) 4 _ a
  rw [e, h4]
  by_cases g : a = 4
  · subst g; rw [upI_eq, upI_eq, h8 4 (by omega) (by omega)]
  · rw [upI_ne g, upI_ne g, h8 a b c]
/-- the same but for the row that is now, and what is written over at each look -/
def tKp (t t' : TS) : Prop := t'.1 = t.1 ∧ ∀ j, j ≠ 0 → j ≠ 6 → j ≠ 7 → j ≠ 8 → t'.2 j = t.2 j
theorem tKp.refl (t : TS) : tKp t t := ⟨rfl, fun _ _ _ _ _ => rfl⟩
theorem tKp.trans {a b c : TS} (h : tKp a b) (k : tKp b c) : tKp a c := ⟨k.1.trans h.1, fun j h0 h1 h2 h3 => (k.2 j h0 h1 h2 h3).trans (h.2 j h0 h1 h2 h3)⟩
theorem y_cleans {b : Nat} {t : TS} {h : HP} (ht : tGd t) (h3 : 0 ≤ t.2 0 3) : ∃ t', f_X9_cleans b (TH b t h) = some ((), TH b t' h) ∧ tKp t t' ∧ tGd t' ∧ 0 ≤ t'.2 0 3 ∧ kEq (kCl (kOf (t.2 0))) (kOf (t'.2 0)) ∧ (∀ i, i ≠ 3 → i ≠ 8 → i < 456 → t'.2 0 i = t.2 0 i) := by
  obtain ⟨t', p1, p2, p3, p4, p5⟩ := x_cleans (b := b) (h := h) (ht.ok h3) ht.mk
  have hl := ml_len (t := t) h3
  have hl' := ml_len (t := t') p3.2.2.2.2.1.1
  have e : clr (fun m => kTh (kOf (t.2 0)) m.1 m.2) [] (km (kOf (t.2 0))) = ml t' := by
    rw [p4]
    refine clr_congr fun m hm => ?_
    exact kOf_there.symm
  have q : kEq (kCl (kOf (t.2 0))) (kOf (t'.2 0)) := by
    refine ⟨p2.2.2 1 (by omega) (by omega) (by omega), p2.2.2 0 (by omega) (by omega) (by omega), p2.2.2 2 (by omega) (by omega) (by omega), e.symm, fun k a b => ?_, fun p a b => ?_, fun p k a b c d => ?_, fun a b c => ?_⟩
    · have : kn (kCl (kOf (t.2 0))) = t.2 0 1 := rfl
      have := ht.2.1.2
      have : kn (kOf (t.2 0)) = t.2 0 1 := rfl
      exact p2.2.2 _ (by omega) (by omega) (by omega)
    · have : kp (kCl (kOf (t.2 0))) = t.2 0 2 := rfl
      have := ht.2.2.2.1.2
      have : kp (kOf (t.2 0)) = t.2 0 2 := rfl
      exact p2.2.2 _ (by omega) (by omega) (by omega)
    · have : kp (kCl (kOf (t.2 0))) = t.2 0 2 := rfl
      have := ht.2.2.2.1.2
      have e2 : kp (kOf (t.2 0)) = t.2 0 2 := rfl
      have := (ht.2.2.2.2.2.2.1 p a (by omega)).2
      have e3 : kl (kCl (kOf (t.2 0))) p = kl (kOf (t.2 0)) p := rfl
      exact p2.2.2 _ (by omega) (by omega) (by omega)
    · show t'.2 0 (4 + a) = upI (fun a => t.2 0 (4 + a)) 4 _ a
      by_cases g : a = 4
      · subst g
        rw [upI_eq, e]
        show t'.2 0 8 = t.2 0 8 + (((ml t).length : Int) - ((ml t').length : Int))
        omega
      · rw [upI_ne g]
        exact p2.2.2 _ (by omega) (by omega) (by omega)
  refine ⟨t', p1, ⟨p2.1, fun j h0 _ _ _ => p2.2.1 j h0⟩, ⟨p3.1, ?_⟩, p3.2.2.2.2.1.1, q, p2.2.2⟩
  refine kOK_eq q ?_
  obtain ⟨-, g1, g2, g3, g4, g5, g6, g7, g8⟩ := ht
  refine ⟨g1, g2, g3, ?_, g5, g6, g7, fun m hm => ?_⟩
  · have := clr_len (g := fun m => kTh (kOf (t.2 0)) m.1 m.2) (kept := []) (l := km (kOf (t.2 0)))
    simp at this
    exact Nat.le_trans this g4
  · rcases clr_mem hm with h | h
    · exact absurd h List.not_mem_nil
    · exact g8 m h.1
