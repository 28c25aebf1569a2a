/-! STAGE 2b: loops, searching and counting, branches whose numbers are in range. -/
set_option maxRecDepth 100000
theorem fx_loop {α σ β : Type} (bot : α) (body : α → α) (ev : α → σ → β) (Inv : σ → Prop) (ms : σ → Nat) (Rz : σ → β → Prop)
    (H : ∀ rec s, Inv s → (∀ s', Inv s' → ms s' < ms s → Rz s' (ev rec s')) → Rz s (ev (body rec) s)) :
    ∀ (N : Nat) (s : σ), Inv s → ms s < N → Rz s (ev (fx bot body N) s) := by
  intro N
  induction N with
  | zero => intro s _ h; exact absurd h (Nat.not_lt_zero _)
  | succ n ih =>
    intro s hi hm
    rw [fx_succ]
    exact H _ s hi (fun s' hi' hm' => ih s' hi' (by omega))
theorem fx_FU {α σ β : Type} {bot : α} {body : α → α} (ev : α → σ → β) (Inv : σ → Prop) (ms : σ → Nat) (Rz : σ → β → Prop)
    (H : ∀ rec s, Inv s → (∀ s', Inv s' → ms s' < ms s → Rz s' (ev rec s')) → Rz s (ev (body rec) s)) (s : σ) (hi : Inv s) (hm : ms s < 100000) :
    Rz s (ev (fx bot body FU) s) := fx_loop bot body ev Inv ms Rz H FU s hi (Nat.lt_of_lt_of_le hm FU_le)
/-- the first of n numbers from i on with p -/
def fnd (p : Int → Bool) (i : Int) : Nat → Option Int
  | 0 => none
  | n + 1 => if p i then some i else fnd p (i + 1) n
/-- how many of n numbers from i on with p -/
def cnt (p : Int → Bool) (i : Int) : Nat → Int
  | 0 => 0
  | n + 1 => (if p i then 1 else 0) + cnt p (i + 1) n
theorem fnd_congr {p q : Int → Bool} {i : Int} {n : Nat} (h : ∀ k, i ≤ k → k < i + n → p k = q k) : fnd p i n = fnd q i n := by
  induction n generalizing i with
  | zero => rfl
  | succ n ih =>
    unfold fnd
    rw [h i (by omega) (by omega), ih (fun k h1 h2 => h k (by omega) (by omega))]
theorem cnt_congr {p q : Int → Bool} {i : Int} {n : Nat} (h : ∀ k, i ≤ k → k < i + n → p k = q k) : cnt p i n = cnt q i n := by
  induction n generalizing i with
  | zero => rfl
  | succ n ih =>
    unfold cnt
    rw [h i (by omega) (by omega), ih (fun k h1 h2 => h k (by omega) (by omega))]
theorem fnd_some {p : Int → Bool} {i k : Int} {n : Nat} (h : fnd p i n = some k) : i ≤ k ∧ k < i + n ∧ p k = true ∧ ∀ j, i ≤ j → j < k → p j = false := by
  induction n generalizing i with
  | zero => cases h
  | succ n ih =>
    unfold fnd at h
    by_cases g : p i = true
    · rw [if_pos g] at h; cases h
      exact ⟨by omega, by omega, g, fun j h1 h2 => absurd h2 (by omega)⟩
    · rw [if_neg g] at h
      obtain ⟨h1, h2, h3, h4⟩ := ih h
      refine ⟨by omega, by omega, h3, fun j h5 h6 => ?_⟩
      by_cases e : j = i
      · subst e; simpa using g
      · exact h4 j (by omega) h6
theorem fnd_none {p : Int → Bool} {i : Int} {n : Nat} : fnd p i n = none ↔ ∀ k, i ≤ k → k < i + n → p k = false := by
  induction n generalizing i with
  | zero => exact ⟨fun _ k h1 h2 => absurd h2 (by omega), fun _ => rfl⟩
  | succ n ih =>
    unfold fnd
    by_cases g : p i = true
    · rw [if_pos g]
      refine ⟨fun h => (nomatch h), fun h => ?_⟩
      have := h i (by omega) (by omega)
      rw [g] at this; cases this
    · rw [if_neg g, ih]
      refine ⟨fun h k h1 h2 => ?_, fun h k h1 h2 => h k (by omega) (by omega)⟩
      by_cases e : k = i
      · subst e; simpa using g
      · exact h k (by omega) (by omega)
theorem fnd_eq {p : Int → Bool} {i k : Int} {n : Nat} (h1 : i ≤ k) (h2 : k < i + n) (h3 : p k = true) (h4 : ∀ j, i ≤ j → j < k → p j = false) : fnd p i n = some k := by
  cases h : fnd p i n with
  | none => have := fnd_none.mp h k h1 h2; rw [h3] at this; cases this
  | some j =>
    obtain ⟨a, b, c, d⟩ := fnd_some h
    by_cases e : j < k
    · have := h4 j a e; rw [c] at this; cases this
    · by_cases e2 : k < j
      · have := d k h1 e2; rw [h3] at this; cases this
      · rw [show j = k by omega]
theorem cnt_le {p : Int → Bool} {i : Int} {n : Nat} : 0 ≤ cnt p i n ∧ cnt p i n ≤ n := by
  induction n generalizing i with
  | zero => exact ⟨Int.le_refl _, Int.le_refl _⟩
  | succ n ih =>
    unfold cnt
    have := ih (i := i + 1)
    by_cases g : p i = true
    · rw [if_pos g]; omega
    · rw [if_neg g]; omega
/-- branches in range -/
theorem iLT_in {α : Type} {a b : Int} {x y : Option α} (ha : inR a) (hb : inR b) : iLT a b x y = if a < b then x else y := if_pos ⟨ha, hb⟩
theorem iLE_in {α : Type} {a b : Int} {x y : Option α} (ha : inR a) (hb : inR b) : iLE a b x y = if a ≤ b then x else y := if_pos ⟨ha, hb⟩
theorem iEQ_in {α : Type} {a b : Int} {x y : Option α} (ha : inR a) (hb : inR b) : iEQ a b x y = if a = b then x else y := if_pos ⟨ha, hb⟩
theorem iIN_in {α : Type} {a : Int} {x : Option α} (ha : inR a) : iIN a x = x := if_pos ha
theorem rtZ_in {α : Type} {z : Int} {x : Option α} (h : z = 0 ∨ z = 1) : rtZ z x = x := if_pos h
theorem rtB_in {α : Type} {z : Int} {x : Option α} (h : -128 ≤ z ∧ z ≤ 127) : rtB z x = x := if_pos h
theorem rtC_in {α : Type} {z : Int} {x : Option α} (h : 0 ≤ z ∧ z ≤ 65535) : rtC z x = x := if_pos h
theorem iDV_in {a b : Int} (h : 0 ≤ a ∧ a ≤ 2147483647 ∧ 0 < b ∧ b ≤ 2147483647) : iDV a b = some (a / b) := if_pos h
theorem iRM_in {a b : Int} (h : 0 ≤ a ∧ a ≤ 2147483647 ∧ 0 < b ∧ b ≤ 2147483647) : iRM a b = some (a % b) := if_pos h
def bZ (b : Bool) : Int := if b then 1 else 0
theorem bZ_01 (b : Bool) : bZ b = 0 ∨ bZ b = 1 := by cases b <;> simp [bZ]
