/-! STAGE 2d: the reference: borders, marks. -/
set_option maxRecDepth 100000
theorem upN_0 {f : Nat → Int → Int} {g : Int → Int} : upN f 0 g 0 = g := by simp [upN]
theorem upN_ne {α : Type} {f : Nat → α} {k j : Nat} {g : α} (h : j ≠ k) : upN f k g j = f j := by simp [upN, h]
theorem upI_eq {α : Type} {f : Int → α} {i : Int} {v : α} : upI f i v i = v := by simp [upI]
theorem upI_ne {α : Type} {f : Int → α} {i j : Int} {v : α} (h : j ≠ i) : upI f i v j = f j := by simp [upI, h]
/-- the greatest border -/
def bd (r : Int → Int) (fm m : Int) : Nat → Int
  | 0 => 0
  | k + 1 => if al r (fun j => r (m - (k + 1) + j)) fm (k + 1) = k + 1 then k + 1 else bd r fm m k
theorem bd_le {r : Int → Int} {fm m : Int} {k : Nat} : 0 ≤ bd r fm m k ∧ bd r fm m k ≤ k := by
  induction k with
  | zero => exact ⟨Int.le_refl _, Int.le_refl _⟩
  | succ k ih =>
    unfold bd
    by_cases g : al r (fun j => r (m - (k + 1) + j)) fm (k + 1) = k + 1
    · rw [if_pos g]; omega
    · rw [if_neg g]; omega
theorem x_borderOf {b : Nat} {t : TS} {h : HP} {fr m : Int} (ht : tIn t) (h1 : 12 ≤ fr) (hm : 1 ≤ m) (hr : fr + m + m ≤ 576) :
    f_X9_borderOf b fr m (TH b t h) = some (bd (fun j => t.2 0 (fr + j)) (t.2 0 0) m (m - 1).toNat, TH b t h) := by
  unfold f_X9_borderOf b_X9_borderOf_4
  have key := fx_FU (bot := fun (_ : Option Nat) (_ _ _ : Int) (_ : HP) => (none : Option (Int × HP))) (body := c_X9_borderOf_4)
    (fun F (k : Int) => F (some b) fr m k (TH b t h)) (fun k => 0 ≤ k ∧ k < m) (fun k => k.toNat)
    (fun k v => v = some (bd (fun j => t.2 0 (fr + j)) (t.2 0 0) m k.toNat, TH b t h)) ?_ (m - 1) ⟨by omega, by omega⟩ (by omega)
  · exact key
  · rintro rec k ⟨h3, h4⟩ ih
    unfold c_X9_borderOf_4
    simp (discharger := omega) only [th_rcv, th_R0, th_R1, th_R2, th_R3, th_R4, th_R5, th_I6, th_W6, th_I7, th_W7, th_R8, th_R9, th_R10, th_R11, th_I12, th_W12, th_I13, th_W13, th_I14, th_W14, th_I15, th_W15, th_I16, th_W16, th_I17, th_W17, th_I18, th_W18, th_I19, th_W19, th_I20, th_W20, th_I21, th_W21, th_R22, th_R23, th_R24, th_R25, th_R26, th_R27, th_R28, th_I29, th_W29, th_I30, th_W30, th_I31, th_W31, th_R32, th_I33, th_W33, th_A0, th_S0, th_L0, th_A1, th_S1, th_L1, th_A2, th_S2, th_L2, th_A3, th_S3, th_L3, th_A4, th_S4, th_L4, th_A5, th_S5, th_L5, th_A6, th_S6, th_L6, th_A7, th_S7, th_L7, th_A8, th_S8, th_L8, th_A9, th_S9, th_L9, th_A10, th_S10, th_L10, th_A11, th_S11, th_L11, th_A12, th_S12, th_L12, th_A13, th_S13, th_L13, th_A14, th_S14, th_L14, th_A15, th_S15, th_L15, th_A16, th_S16, th_L16, th_A17, th_S17, th_L17, hb_some, hbx_inr, hbx_inl, Option.bind_some, iLT_in, iLE_in, iEQ_in, iIN_in, rtZ_in, rtC_in, rtB_in, if_pos, x_areAlike ht, iEQ_bZ]
    have e : (fun j => t.2 0 (fr + m - k + j)) = (fun j => (fun j => t.2 0 (fr + j)) (m - k + j)) := by
      funext j
      dsimp only
      rw [show fr + m - k + j = fr + (m - k + j) by omega]
    rw [e]
    by_cases g0 : k = 0
    · subst g0
      have : al (fun j => t.2 0 (fr + j)) (fun j => (fun j => t.2 0 (fr + j)) (m - 0 + j)) (t.2 0 0) 0 = 0 := rfl
      rw [this]
      simp [bd]
    · obtain ⟨n, rfl⟩ : ∃ n : Nat, k = (n : Int) + 1 := ⟨(k - 1).toNat, by omega⟩
      rw [show ((n : Int) + 1).toNat = n + 1 by omega]
      unfold bd
      by_cases g : al (fun j => t.2 0 (fr + j)) (fun j => (fun j => t.2 0 (fr + j)) (m - ((n : Int) + 1) + j)) (t.2 0 0) ((n : Int) + 1) = (n : Int) + 1
      · rw [if_pos g]
        simp [g]
      · rw [if_neg g]
        have := ih ((n : Int) + 1 + (-1)) ⟨by omega, by omega⟩ (by omega)
        rw [show ((n : Int) + 1 + (-1)).toNat = n by omega] at this
        simp only [g, decide_false, Bool.false_eq_true, if_false]
        exact this
/-- marks as a list: pattern, place -/
def ml (t : TS) : List (Int × Int) := (List.range (t.2 0 3).toNat).map fun (i : Nat) => (t.2 0 (456 + 2 * (i : Int) + 1), t.2 0 (456 + 2 * (i : Int)))
theorem ml_len {t : TS} (h : 0 ≤ t.2 0 3) : ((ml t).length : Int) = t.2 0 3 := by
  unfold ml
  rw [List.length_map, List.length_range]
  omega
theorem ml_at {t : TS} {i : Nat} (h : (i : Int) < t.2 0 3) : (ml t)[i]? = some (t.2 0 (456 + 2 * (i : Int) + 1), t.2 0 (456 + 2 * (i : Int))) := by
  unfold ml
  rw [List.getElem?_map, List.getElem?_range (by omega)]
  rfl
theorem ml_ext {t : TS} {l : List (Int × Int)} (h0 : 0 ≤ t.2 0 3) (h : (l.length : Int) = t.2 0 3) (h2 : ∀ i : Nat, (i : Int) < t.2 0 3 → l[i]? = some (t.2 0 (456 + 2 * (i : Int) + 1), t.2 0 (456 + 2 * (i : Int)))) : ml t = l := by
  apply List.ext_getElem?
  intro i
  by_cases g : (i : Int) < t.2 0 3
  · rw [ml_at g, h2 i g]
  · rw [List.getElem?_eq_none (by have := ml_len h0; omega), List.getElem?_eq_none (by omega)]
theorem x_markPlace {b : Nat} {t : TS} {h : HP} {k : Int} (h1 : 0 ≤ k) (h2 : k < 60) : f_X9_markPlace b k (TH b t h) = some (t.2 0 (456 + 2 * k), TH b t h) := by
  unfold f_X9_markPlace
  simp (discharger := omega) only [th_rcv, th_R0, th_R1, th_R2, th_R3, th_R4, th_R5, th_I6, th_W6, th_I7, th_W7, th_R8, th_R9, th_R10, th_R11, th_I12, th_W12, th_I13, th_W13, th_I14, th_W14, th_I15, th_W15, th_I16, th_W16, th_I17, th_W17, th_I18, th_W18, th_I19, th_W19, th_I20, th_W20, th_I21, th_W21, th_R22, th_R23, th_R24, th_R25, th_R26, th_R27, th_R28, th_I29, th_W29, th_I30, th_W30, th_I31, th_W31, th_R32, th_I33, th_W33, th_A0, th_S0, th_L0, th_A1, th_S1, th_L1, th_A2, th_S2, th_L2, th_A3, th_S3, th_L3, th_A4, th_S4, th_L4, th_A5, th_S5, th_L5, th_A6, th_S6, th_L6, th_A7, th_S7, th_L7, th_A8, th_S8, th_L8, th_A9, th_S9, th_L9, th_A10, th_S10, th_L10, th_A11, th_S11, th_L11, th_A12, th_S12, th_L12, th_A13, th_S13, th_L13, th_A14, th_S14, th_L14, th_A15, th_S15, th_L15, th_A16, th_S16, th_L16, th_A17, th_S17, th_L17, hb_some, hbx_inr, hbx_inl, Option.bind_some, iLT_in, iLE_in, iEQ_in, iIN_in, rtZ_in, rtC_in, rtB_in, if_pos]
theorem x_markPattern {b : Nat} {t : TS} {h : HP} {k : Int} (h1 : 0 ≤ k) (h2 : k < 60) : f_X9_markPattern b k (TH b t h) = some (t.2 0 (456 + 2 * k + 1), TH b t h) := by
  unfold f_X9_markPattern
  simp (discharger := omega) only [th_rcv, th_R0, th_R1, th_R2, th_R3, th_R4, th_R5, th_I6, th_W6, th_I7, th_W7, th_R8, th_R9, th_R10, th_R11, th_I12, th_W12, th_I13, th_W13, th_I14, th_W14, th_I15, th_W15, th_I16, th_W16, th_I17, th_W17, th_I18, th_W18, th_I19, th_W19, th_I20, th_W20, th_I21, th_W21, th_R22, th_R23, th_R24, th_R25, th_R26, th_R27, th_R28, th_I29, th_W29, th_I30, th_W30, th_I31, th_W31, th_R32, th_I33, th_W33, th_A0, th_S0, th_L0, th_A1, th_S1, th_L1, th_A2, th_S2, th_L2, th_A3, th_S3, th_L3, th_A4, th_S4, th_L4, th_A5, th_S5, th_L5, th_A6, th_S6, th_L6, th_A7, th_S7, th_L7, th_A8, th_S8, th_L8, th_A9, th_S9, th_L9, th_A10, th_S10, th_L10, th_A11, th_S11, th_L11, th_A12, th_S12, th_L12, th_A13, th_S13, th_L13, th_A14, th_S14, th_L14, th_A15, th_S15, th_L15, th_A16, th_S16, th_L16, th_A17, th_S17, th_L17, hb_some, hbx_inr, hbx_inl, Option.bind_some, iLT_in, iLE_in, iEQ_in, iIN_in, rtZ_in, rtC_in, rtB_in, if_pos]
theorem x_counts {b : Nat} {t : TS} {h : HP} {a n : Int} (h1 : 0 ≤ a) (h2 : a < 8) : f_X9_counts b a n (TH b t h) = some ((), TH b (t.1, upN t.2 0 (upI (t.2 0) (4 + a) (t.2 0 (4 + a) + n))) h) := by
  unfold f_X9_counts
  simp (discharger := omega) only [th_rcv, th_R0, th_R1, th_R2, th_R3, th_R4, th_R5, th_I6, th_W6, th_I7, th_W7, th_R8, th_R9, th_R10, th_R11, th_I12, th_W12, th_I13, th_W13, th_I14, th_W14, th_I15, th_W15, th_I16, th_W16, th_I17, th_W17, th_I18, th_W18, th_I19, th_W19, th_I20, th_W20, th_I21, th_W21, th_R22, th_R23, th_R24, th_R25, th_R26, th_R27, th_R28, th_I29, th_W29, th_I30, th_W30, th_I31, th_W31, th_R32, th_I33, th_W33, th_A0, th_S0, th_L0, th_A1, th_S1, th_L1, th_A2, th_S2, th_L2, th_A3, th_S3, th_L3, th_A4, th_S4, th_L4, th_A5, th_S5, th_L5, th_A6, th_S6, th_L6, th_A7, th_S7, th_L7, th_A8, th_S8, th_L8, th_A9, th_S9, th_L9, th_A10, th_S10, th_L10, th_A11, th_S11, th_L11, th_A12, th_S12, th_L12, th_A13, th_S13, th_L13, th_A14, th_S14, th_L14, th_A15, th_S15, th_L15, th_A16, th_S16, th_L16, th_A17, th_S17, th_L17, hb_some, hbx_inr, hbx_inl, Option.bind_some, iLT_in, iLE_in, iEQ_in, iIN_in, rtZ_in, rtC_in, rtB_in, if_pos]
/-- the first mark of a pattern at a place, of so many -/
def mof (t : TS) (p q m : Int) : Int := match fnd (fun k => decide (t.2 0 (456 + 2 * k) = q ∧ t.2 0 (456 + 2 * k + 1) = p)) 0 m.toNat with
  | some i => i
  | none => -1
theorem x_markOf {b : Nat} {t : TS} {h : HP} {p q m : Int} (ht : tIn t) (hp : inR p) (hq : inR q) (hm : 0 ≤ m) (hm2 : m ≤ 60) : f_X9_markOf b p q m (TH b t h) = some (mof t p q m, TH b t h) := by
  unfold f_X9_markOf b_X9_markOf_3
  have key := fx_FU (bot := fun (_ : Option Nat) (_ _ _ _ : Int) (_ : HP) => (none : Option (Int × HP))) (body := c_X9_markOf_3)
    (fun F (k : Int) => F (some b) p q m k (TH b t h)) (fun k => 0 ≤ k ∧ k ≤ m) (fun k => (m - k).toNat)
    (fun k v => v = some ((match fnd (fun k => decide (t.2 0 (456 + 2 * k) = q ∧ t.2 0 (456 + 2 * k + 1) = p)) k (m - k).toNat with
      | some i => i
      | none => -1), TH b t h)) ?_ 0 ⟨by omega, by omega⟩ (by omega)
  · rw [key, Int.sub_zero]; rfl
  · rintro rec k ⟨h3, h4⟩ ih
    have e1 := ht (456 + 2 * k) (by omega)
    have e2 := ht (456 + 2 * k + 1) (by omega)
    unfold c_X9_markOf_3 b_X9_markOf_32
    by_cases g : m ≤ k
    · rw [show k = m by omega]
      simp (discharger := omega) only [th_rcv, th_R0, th_R1, th_R2, th_R3, th_R4, th_R5, th_I6, th_W6, th_I7, th_W7, th_R8, th_R9, th_R10, th_R11, th_I12, th_W12, th_I13, th_W13, th_I14, th_W14, th_I15, th_W15, th_I16, th_W16, th_I17, th_W17, th_I18, th_W18, th_I19, th_W19, th_I20, th_W20, th_I21, th_W21, th_R22, th_R23, th_R24, th_R25, th_R26, th_R27, th_R28, th_I29, th_W29, th_I30, th_W30, th_I31, th_W31, th_R32, th_I33, th_W33, th_A0, th_S0, th_L0, th_A1, th_S1, th_L1, th_A2, th_S2, th_L2, th_A3, th_S3, th_L3, th_A4, th_S4, th_L4, th_A5, th_S5, th_L5, th_A6, th_S6, th_L6, th_A7, th_S7, th_L7, th_A8, th_S8, th_L8, th_A9, th_S9, th_L9, th_A10, th_S10, th_L10, th_A11, th_S11, th_L11, th_A12, th_S12, th_L12, th_A13, th_S13, th_L13, th_A14, th_S14, th_L14, th_A15, th_S15, th_L15, th_A16, th_S16, th_L16, th_A17, th_S17, th_L17, hb_some, hbx_inr, hbx_inl, Option.bind_some, iLT_in, iLE_in, iEQ_in, iIN_in, rtZ_in, rtC_in, rtB_in, if_pos]
      rw [show (m - m).toNat = 0 by omega]
      rfl
    · simp (discharger := omega) only [th_rcv, th_R0, th_R1, th_R2, th_R3, th_R4, th_R5, th_I6, th_W6, th_I7, th_W7, th_R8, th_R9, th_R10, th_R11, th_I12, th_W12, th_I13, th_W13, th_I14, th_W14, th_I15, th_W15, th_I16, th_W16, th_I17, th_W17, th_I18, th_W18, th_I19, th_W19, th_I20, th_W20, th_I21, th_W21, th_R22, th_R23, th_R24, th_R25, th_R26, th_R27, th_R28, th_I29, th_W29, th_I30, th_W30, th_I31, th_W31, th_R32, th_I33, th_W33, th_A0, th_S0, th_L0, th_A1, th_S1, th_L1, th_A2, th_S2, th_L2, th_A3, th_S3, th_L3, th_A4, th_S4, th_L4, th_A5, th_S5, th_L5, th_A6, th_S6, th_L6, th_A7, th_S7, th_L7, th_A8, th_S8, th_L8, th_A9, th_S9, th_L9, th_A10, th_S10, th_L10, th_A11, th_S11, th_L11, th_A12, th_S12, th_L12, th_A13, th_S13, th_L13, th_A14, th_S14, th_L14, th_A15, th_S15, th_L15, th_A16, th_S16, th_L16, th_A17, th_S17, th_L17, hb_some, hbx_inr, hbx_inl, Option.bind_some, iLT_in, iLE_in, iEQ_in, iIN_in, rtZ_in, rtC_in, rtB_in, if_pos, if_neg, x_markPlace, x_markPattern]
      have := ih (k + 1) ⟨by omega, by omega⟩ (by omega)
      rw [show (m - k).toNat = (m - (k + 1)).toNat + 1 by omega]
      unfold fnd
      by_cases g1 : t.2 0 (456 + 2 * k) = q
      · by_cases g2 : t.2 0 (456 + 2 * k + 1) = p
        · simp [g1, g2]
        · simp only [g1, g2, if_true, if_false, and_false, decide_false, Bool.false_eq_true]
          exact this
      · simp only [g1, if_false, false_and, decide_false, Bool.false_eq_true]
        exact this
theorem mof_le {t : TS} {p q m : Int} (hm : 0 ≤ m) : -1 ≤ mof t p q m ∧ (mof t p q m = -1 ∨ mof t p q m < m) := by
  unfold mof
  cases e : fnd (fun k => decide (t.2 0 (456 + 2 * k) = q ∧ t.2 0 (456 + 2 * k + 1) = p)) 0 m.toNat with
  | none => exact ⟨Int.le_refl _, Or.inl rfl⟩
  | some i =>
    obtain ⟨h1, h2, -⟩ := fnd_some e
    dsimp only
    omega
theorem mof_none {t : TS} {p q : Int} {m : Nat} (h : (m : Int) ≤ t.2 0 3) : mof t p q m = -1 ↔ (p, q) ∉ (ml t).take m := by
  unfold mof
  constructor
  · intro h1 h2
    cases e : fnd (fun k => decide (t.2 0 (456 + 2 * k) = q ∧ t.2 0 (456 + 2 * k + 1) = p)) 0 (m : Int).toNat with
    | some i =>
      rw [e] at h1
      obtain ⟨h3, -⟩ := fnd_some e
      dsimp only at h1
      omega
    | none =>
      obtain ⟨i, hi, hi2⟩ := List.mem_take_iff_getElem.mp h2
      have h4 := fnd_none.mp e (i : Int) (by omega) (by omega)
      have h5 := ml_at (t := t) (i := i) (by omega)
      rw [List.getElem?_eq_getElem (by omega)] at h5
      rw [hi2] at h5
      simp only [Option.some.injEq, Prod.mk.injEq] at h5
      simp [← h5.1, ← h5.2] at h4
  · intro h1
    cases e : fnd (fun k => decide (t.2 0 (456 + 2 * k) = q ∧ t.2 0 (456 + 2 * k + 1) = p)) 0 (m : Int).toNat with
    | none => rfl
    | some i =>
      exfalso
      obtain ⟨h3, h4, h5, -⟩ := fnd_some e
      simp only [decide_eq_true_eq] at h5
      obtain ⟨n, rfl⟩ : ∃ n : Nat, i = n := ⟨i.toNat, by omega⟩
      have h6 := ml_at (t := t) (i := n) (by omega)
      have h7 : n < (ml t).length := by have := ml_len (t := t) (by omega); omega
      rw [List.getElem?_eq_getElem h7] at h6
      refine h1 (List.mem_take_iff_getElem.mpr ⟨n, by omega, ?_⟩)
      rw [Option.some.inj h6, h5.1, h5.2]
theorem x_isRight {b : Nat} {t : TS} {h : HP} {k : Nat} (ht : tOK t) (hk : (k : Int) < t.2 0 3) (h1 : 0 ≤ t.2 0 (456 + 2 * (k : Int) + 1)) (h2 : t.2 0 (456 + 2 * (k : Int) + 1) < t.2 0 2) (h3 : 0 ≤ t.2 0 (456 + 2 * (k : Int))) (h4 : t.2 0 (456 + 2 * (k : Int)) < 1000) :
    f_X9_isRight b k (TH b t h) = some (bZ (there t (t.2 0 (456 + 2 * (k : Int) + 1)) (t.2 0 (456 + 2 * (k : Int))) && decide ((t.2 0 (456 + 2 * (k : Int) + 1), t.2 0 (456 + 2 * (k : Int))) ∉ (ml t).take k)), TH b t h) := by
  have hh := ht
  obtain ⟨k1, k2, k3, k4, k5, k6⟩ := ht
  have hm := mof_none (t := t) (p := t.2 0 (456 + 2 * (k : Int) + 1)) (q := t.2 0 (456 + 2 * (k : Int))) (m := k) (by omega)
  have hm2 := mof_le (t := t) (p := t.2 0 (456 + 2 * (k : Int) + 1)) (q := t.2 0 (456 + 2 * (k : Int))) (m := k) (by omega)
  unfold f_X9_isRight b_X9_isRight_40 b_X9_isRight_41
  simp (discharger := omega) only [th_rcv, th_R0, th_R1, th_R2, th_R3, th_R4, th_R5, th_I6, th_W6, th_I7, th_W7, th_R8, th_R9, th_R10, th_R11, th_I12, th_W12, th_I13, th_W13, th_I14, th_W14, th_I15, th_W15, th_I16, th_W16, th_I17, th_W17, th_I18, th_W18, th_I19, th_W19, th_I20, th_W20, th_I21, th_W21, th_R22, th_R23, th_R24, th_R25, th_R26, th_R27, th_R28, th_I29, th_W29, th_I30, th_W30, th_I31, th_W31, th_R32, th_I33, th_W33, th_A0, th_S0, th_L0, th_A1, th_S1, th_L1, th_A2, th_S2, th_L2, th_A3, th_S3, th_L3, th_A4, th_S4, th_L4, th_A5, th_S5, th_L5, th_A6, th_S6, th_L6, th_A7, th_S7, th_L7, th_A8, th_S8, th_L8, th_A9, th_S9, th_L9, th_A10, th_S10, th_L10, th_A11, th_S11, th_L11, th_A12, th_S12, th_L12, th_A13, th_S13, th_L13, th_A14, th_S14, th_L14, th_A15, th_S15, th_L15, th_A16, th_S16, th_L16, th_A17, th_S17, th_L17, hb_some, hbx_inr, hbx_inl, Option.bind_some, iLT_in, iLE_in, iEQ_in, iIN_in, rtZ_in, rtC_in, rtB_in, if_pos, x_markPlace, x_markPattern, x_isThere hh, iEQ_bZ, x_markOf k1]
  by_cases g : there t (t.2 0 (456 + 2 * (k : Int) + 1)) (t.2 0 (456 + 2 * (k : Int))) = true
  · by_cases g2 : (t.2 0 (456 + 2 * (k : Int) + 1), t.2 0 (456 + 2 * (k : Int))) ∉ (ml t).take k
    · have := hm.mpr g2
      simp [g, g2, this, bZ]
    · have : ¬ mof t (t.2 0 (456 + 2 * (k : Int) + 1)) (t.2 0 (456 + 2 * (k : Int))) k = -1 := fun z => g2 (hm.mp z)
      rw [if_pos g, if_neg this]
      simp [g2, bZ]
  · rw [if_neg g]
    simp [g, bZ]
/-- the same but for marks and the account of those that were lost -/
def tSm (t t' : TS) : Prop := t'.1 = t.1 ∧ (∀ j, j ≠ 0 → t'.2 j = t.2 j) ∧ ∀ i, i ≠ 3 → i ≠ 8 → i < 456 → t'.2 0 i = t.2 0 i
theorem x_takesOut {b : Nat} {t : TS} {h : HP} {k : Int} (ht : tOK t) (h1 : 0 ≤ k) (h2 : k < t.2 0 3) : ∃ t', f_X9_takesOut b k (TH b t h) = some ((), TH b t' h) ∧ t'.1 = t.1 ∧ (∀ j, j ≠ 0 → t'.2 j = t.2 j) ∧
    ∀ i, t'.2 0 i = if i = 3 then t.2 0 3 - 1 else if 456 + 2 * k ≤ i ∧ i < 456 + 2 * (t.2 0 3 - 1) then t.2 0 (i + 2) else t.2 0 i := by
  obtain ⟨k1, k2, k3, k4, k5, k6⟩ := ht
  unfold f_X9_takesOut b_X9_takesOut_18
  simp (discharger := omega) only [th_rcv, th_R0, th_R1, th_R2, th_R3, th_R4, th_R5, th_I6, th_W6, th_I7, th_W7, th_R8, th_R9, th_R10, th_R11, th_I12, th_W12, th_I13, th_W13, th_I14, th_W14, th_I15, th_W15, th_I16, th_W16, th_I17, th_W17, th_I18, th_W18, th_I19, th_W19, th_I20, th_W20, th_I21, th_W21, th_R22, th_R23, th_R24, th_R25, th_R26, th_R27, th_R28, th_I29, th_W29, th_I30, th_W30, th_I31, th_W31, th_R32, th_I33, th_W33, th_A0, th_S0, th_L0, th_A1, th_S1, th_L1, th_A2, th_S2, th_L2, th_A3, th_S3, th_L3, th_A4, th_S4, th_L4, th_A5, th_S5, th_L5, th_A6, th_S6, th_L6, th_A7, th_S7, th_L7, th_A8, th_S8, th_L8, th_A9, th_S9, th_L9, th_A10, th_S10, th_L10, th_A11, th_S11, th_L11, th_A12, th_S12, th_L12, th_A13, th_S13, th_L13, th_A14, th_S14, th_L14, th_A15, th_S15, th_L15, th_A16, th_S16, th_L16, th_A17, th_S17, th_L17, hb_some, hbx_inr, hbx_inl, Option.bind_some, iLT_in, iLE_in, iEQ_in, iIN_in, rtZ_in, rtC_in, rtB_in, if_pos]
  have key := fx_FU (bot := fun (_ : Option Nat) (_ : Int) (_ : HP) => (none : Option (Unit × HP))) (body := c_X9_takesOut_18)
    (fun F (s : Int × TS) => F (some b) s.1 (TH b s.2 h)) (fun s => (456 + 2 * k ≤ s.1 ∧ s.1 ≤ 456 + 2 * (t.2 0 3 - 1)) ∧ s.2.1 = t.1 ∧ (∀ j, j ≠ 0 → s.2.2 j = t.2 j) ∧
      ∀ i, s.2.2 0 i = if i = 3 then t.2 0 3 - 1 else if 456 + 2 * k ≤ i ∧ i < s.1 then t.2 0 (i + 2) else t.2 0 i) (fun s => (456 + 2 * (t.2 0 3 - 1) - s.1).toNat)
    (fun s v => ∃ t', v = some ((), TH b t' h) ∧ t'.1 = t.1 ∧ (∀ j, j ≠ 0 → t'.2 j = t.2 j) ∧
    ∀ i, t'.2 0 i = if i = 3 then t.2 0 3 - 1 else if 456 + 2 * k ≤ i ∧ i < 456 + 2 * (t.2 0 3 - 1) then t.2 0 (i + 2) else t.2 0 i) ?_
    (456 + 2 * k, (t.1, upN t.2 0 (upI (t.2 0) 3 (t.2 0 3 - 1)))) ⟨⟨by dsimp only; omega, by dsimp only; omega⟩, rfl, fun j hj => upN_ne hj, fun i => ?_⟩ (by dsimp only; omega)
  · exact key
  · rintro rec ⟨i, u⟩ ⟨⟨h3, h4⟩, h5, h6, h7⟩ ih
    dsimp only at h3 h4 h5 h6 h7 ih ⊢
    have e3 : u.2 0 3 = t.2 0 3 - 1 := by rw [h7, if_pos rfl]
    unfold c_X9_takesOut_18
    simp (discharger := omega) only [th_rcv, th_R0, th_R1, th_R2, th_R3, th_R4, th_R5, th_I6, th_W6, th_I7, th_W7, th_R8, th_R9, th_R10, th_R11, th_I12, th_W12, th_I13, th_W13, th_I14, th_W14, th_I15, th_W15, th_I16, th_W16, th_I17, th_W17, th_I18, th_W18, th_I19, th_W19, th_I20, th_W20, th_I21, th_W21, th_R22, th_R23, th_R24, th_R25, th_R26, th_R27, th_R28, th_I29, th_W29, th_I30, th_W30, th_I31, th_W31, th_R32, th_I33, th_W33, th_A0, th_S0, th_L0, th_A1, th_S1, th_L1, th_A2, th_S2, th_L2, th_A3, th_S3, th_L3, th_A4, th_S4, th_L4, th_A5, th_S5, th_L5, th_A6, th_S6, th_L6, th_A7, th_S7, th_L7, th_A8, th_S8, th_L8, th_A9, th_S9, th_L9, th_A10, th_S10, th_L10, th_A11, th_S11, th_L11, th_A12, th_S12, th_L12, th_A13, th_S13, th_L13, th_A14, th_S14, th_L14, th_A15, th_S15, th_L15, th_A16, th_S16, th_L16, th_A17, th_S17, th_L17, hb_some, hbx_inr, hbx_inl, Option.bind_some, iLT_in, iLE_in, iEQ_in, iIN_in, rtZ_in, rtC_in, rtB_in, if_pos, e3]
    by_cases g : 456 + 2 * (t.2 0 3 - 1) ≤ i
    · rw [if_pos g]
      refine ⟨u, rfl, h5, h6, fun j => ?_⟩
      rw [h7, show i = 456 + 2 * (t.2 0 3 - 1) by omega]
    · rw [if_neg g]
      refine ih (i + 1, _) ⟨⟨by dsimp only; omega, by dsimp only; omega⟩, h5, fun j hj => ?_, fun j => ?_⟩ (by dsimp only; omega)
      · dsimp only
        rw [upN_ne hj]; exact h6 j hj
      · dsimp only
        rw [upN_0]
        by_cases e : j = i
        · subst e
          rw [upI_eq, h7, if_neg (by omega), if_neg (by omega), if_neg (by omega), if_pos (by omega)]
        · rw [upI_ne e, h7]
          by_cases e2 : j = 3
          · rw [if_pos e2, if_pos e2]
          · rw [if_neg e2, if_neg e2]
            by_cases e4 : 456 + 2 * k ≤ j ∧ j < i
            · rw [if_pos e4, if_pos (by omega)]
            · rw [if_neg e4, if_neg (by omega)]
  · dsimp only
    rw [upN_0]
    by_cases g : i = 3
    · rw [if_pos g, g, upI_eq]
    · rw [if_neg g, upI_ne g, if_neg (by omega)]
/-- the reference's marks are of patterns and places that are there -/
def tMk (t : TS) : Prop := ∀ m ∈ ml t, (0 ≤ m.1 ∧ m.1 < t.2 0 2) ∧ 0 ≤ m.2 ∧ m.2 < 1000
/-- marks that go on: those that are right, and not yet among those that were kept -/
def clr (g : Int × Int → Bool) (kept : List (Int × Int)) : List (Int × Int) → List (Int × Int)
  | [] => kept
  | m :: r => if g m = true ∧ m ∉ kept then clr g (kept ++ [m]) r else clr g kept r
theorem clr_len {g : Int × Int → Bool} {kept l : List (Int × Int)} : (clr g kept l).length ≤ kept.length + l.length := by
  induction l generalizing kept with
  | nil => simp [clr]
  | cons m r ih =>
    unfold clr
    by_cases h : g m = true ∧ m ∉ kept
    · rw [if_pos h]
      have := ih (kept := kept ++ [m])
      simp at this ⊢
      omega
    · rw [if_neg h]
      have := ih (kept := kept)
      simp at this ⊢
      omega
theorem clr_mem {g : Int × Int → Bool} {kept l : List (Int × Int)} {x : Int × Int} (h : x ∈ clr g kept l) : x ∈ kept ∨ (x ∈ l ∧ g x = true) := by
  induction l generalizing kept with
  | nil => exact Or.inl h
  | cons m r ih =>
    unfold clr at h
    by_cases h2 : g m = true ∧ m ∉ kept
    · rw [if_pos h2] at h
      rcases ih h with h3 | h3
      · rcases List.mem_append.mp h3 with h4 | h4
        · exact Or.inl h4
        · rw [List.mem_singleton.mp h4]
          exact Or.inr ⟨List.mem_cons_self, h2.1⟩
      · exact Or.inr ⟨List.mem_cons_of_mem _ h3.1, h3.2⟩
    · rw [if_neg h2] at h
      rcases ih h with h3 | h3
      · exact Or.inl h3
      · exact Or.inr ⟨List.mem_cons_of_mem _ h3.1, h3.2⟩
theorem tSm.refl (t : TS) : tSm t t := ⟨rfl, fun _ _ => rfl, fun _ _ _ _ => rfl⟩
theorem tSm.trans {a b c : TS} (h : tSm a b) (k : tSm b c) : tSm a c := ⟨k.1.trans h.1, fun j hj => (k.2.1 j hj).trans (h.2.1 j hj), fun i h1 h2 h3 => (k.2.2 i h1 h2 h3).trans (h.2.2 i h1 h2 h3)⟩
theorem al_congr {r r' s s' : Int → Int} {fm m : Int} (h1 : ∀ k, 0 ≤ k → k < m → r k = r' k) (h2 : ∀ k, 0 ≤ k → k < m → s k = s' k) : al r s fm m = al r' s' fm m := by
  have hb : ∀ {r r' : Int → Int}, (∀ k, 0 ≤ k → k < m → r k = r' k) → ∀ k, 0 ≤ k → k < m → sg r fm k = sg r' fm k := by
    intro r r' h k h3 h4
    unfold sg bk
    rw [h k h3 h4]
    have : fnd (fun z => decide (r (k - z) = r' k)) 1 k.toNat = fnd (fun z => decide (r' (k - z) = r' k)) 1 k.toNat := by
      refine fnd_congr fun z h5 h6 => ?_
      rw [h (k - z) (by omega) (by omega)]
    rw [this]
  unfold al
  have : fnd (fun k => decide (sg r fm k ≠ sg s fm k)) 0 m.toNat = fnd (fun k => decide (sg r' fm k ≠ sg s' fm k)) 0 m.toNat := by
    refine fnd_congr fun k h3 h4 => ?_
    rw [hb h1 k h3 (by omega), hb h2 k h3 (by omega)]
  rw [this]
theorem there_Sm {t t' : TS} (ht : tOK t) (h : tSm t t') {p q : Int} (hp : 0 ≤ p) (hp2 : p < t.2 0 2) (hq : 0 ≤ q) : there t' p q = there t p q := by
  obtain ⟨k1, k2, k3, k4, k5, k6⟩ := ht
  have e0 := h.2.2 0 (by omega) (by omega) (by omega)
  have e1 := h.2.2 1 (by omega) (by omega) (by omega)
  have el : ln t' p = ln t p := h.2.2 _ (by omega) (by omega) (by omega)
  have k7 := k6 p hp hp2
  unfold there mt
  rw [e0, e1, el]
  by_cases g : q < t.2 0 1
  · have e : al (pt t' p) (tx t' q) (t.2 0 0) (min (ln t p) (t.2 0 1 - q)) = al (pt t p) (tx t q) (t.2 0 0) (min (ln t p) (t.2 0 1 - q)) := by
      refine al_congr (fun k h1 h2 => ?_) (fun k h1 h2 => ?_)
      · exact h.2.2 _ (by omega) (by omega) (by omega)
      · exact h.2.2 _ (by omega) (by omega) (by omega)
    rw [e]
  · simp [g]
theorem tOK_Sm {t t' : TS} (ht : tOK t) (h : tSm t t') (h3 : 0 ≤ t'.2 0 3 ∧ t'.2 0 3 ≤ 60) (h4 : ∀ i, 456 ≤ i → -1000000 ≤ t'.2 0 i ∧ t'.2 0 i ≤ 1000000) : tOK t' := by
  obtain ⟨k1, k2, k3, k4, k5, k6⟩ := ht
  have e0 := h.2.2 0 (by omega) (by omega) (by omega)
  have e1 := h.2.2 1 (by omega) (by omega) (by omega)
  have e2 := h.2.2 2 (by omega) (by omega) (by omega)
  refine ⟨fun i hi => ?_, by rw [e0]; exact k2, by rw [e1]; exact k3, by rw [e2]; exact k4, h3, fun p h1 h2 => ?_⟩
  · by_cases g : 456 ≤ i
    · exact h4 i g
    · by_cases g2 : i = 3
      · subst g2; omega
      · rw [h.2.2 i g2 (by omega) (by omega)]; exact k1 i hi
  · rw [e2] at h2
    have el : ln t' p = ln t p := h.2.2 _ (by omega) (by omega) (by omega)
    rw [el]; exact k6 p h1 h2
theorem ml_takesOut {t t' : TS} {k : Nat} (h0 : (k : Int) < t.2 0 3) (h : ∀ i, t'.2 0 i = if i = 3 then t.2 0 3 - 1 else if 456 + 2 * (k : Int) ≤ i ∧ i < 456 + 2 * (t.2 0 3 - 1) then t.2 0 (i + 2) else t.2 0 i) : ml t' = (ml t).eraseIdx k := by
  have e3 : t'.2 0 3 = t.2 0 3 - 1 := by rw [h, if_pos rfl]
  have hl := ml_len (t := t) (by omega)
  refine ml_ext (by omega) ?_ (fun i hi => ?_)
  · rw [List.length_eraseIdx_of_lt (by omega), e3]; omega
  · rw [e3] at hi
    rw [List.getElem?_eraseIdx, h, h]
    by_cases g : i < k
    · rw [if_pos g, ml_at (by omega), if_neg (by omega), if_neg (by omega), if_neg (by omega), if_neg (by omega)]
    · rw [if_neg g, ml_at (by omega), if_neg (by omega), if_pos (by omega), if_neg (by omega), if_pos (by omega)]
      congr 2
      all_goals first | omega | (congr 1; omega)
theorem x_cleans {b : Nat} {t : TS} {h : HP} (ht : tOK t) (hm : tMk t) : ∃ t', f_X9_cleans b (TH b t h) = some ((), TH b t' h) ∧ tSm t t' ∧ tOK t' ∧
    ml t' = clr (fun m => there t m.1 m.2) [] (ml t) ∧ t'.2 0 8 = t.2 0 8 + (t.2 0 3 - t'.2 0 3) := by
  unfold f_X9_cleans b_X9_cleans_2
  refine fx_FU (bot := fun (_ : Option Nat) (_ : Int) (_ : HP) => (none : Option (Unit × HP))) (body := c_X9_cleans_2)
    (fun F (s : Nat × TS) => F (some b) s.1 (TH b s.2 h)) (fun s => tSm t s.2 ∧ tOK s.2 ∧ (s.1 : Int) ≤ s.2.2 0 3 ∧ tMk s.2 ∧ s.2.2 0 8 = t.2 0 8 + (t.2 0 3 - s.2.2 0 3) ∧
      clr (fun m => there t m.1 m.2) ((ml s.2).take s.1) ((ml s.2).drop s.1) = clr (fun m => there t m.1 m.2) [] (ml t)) (fun s => (s.2.2 0 3 - s.1).toNat)
    (fun s v => ∃ t', v = some ((), TH b t' h) ∧ tSm t t' ∧ tOK t' ∧ ml t' = clr (fun m => there t m.1 m.2) [] (ml t) ∧ t'.2 0 8 = t.2 0 8 + (t.2 0 3 - t'.2 0 3)) ?_
    (0, t) ⟨tSm.refl t, ht, by have := ht.2.2.2.2.1; dsimp only; omega, hm, by dsimp only; omega, rfl⟩ (by have := ht.2.2.2.2.1; dsimp only; omega)
  rintro rec ⟨k, u⟩ ⟨h1, h2, h3, h4, h5, h6⟩ ih
  dsimp only at h1 h2 h3 h4 h5 h6 ih ⊢
  have hu := h2
  obtain ⟨k1, k2, k3, k4, k5, k6⟩ := h2
  have hl := ml_len (t := u) k5.1
  unfold c_X9_cleans_2
  simp (discharger := omega) only [th_rcv, th_R0, th_R1, th_R2, th_R3, th_R4, th_R5, th_I6, th_W6, th_I7, th_W7, th_R8, th_R9, th_R10, th_R11, th_I12, th_W12, th_I13, th_W13, th_I14, th_W14, th_I15, th_W15, th_I16, th_W16, th_I17, th_W17, th_I18, th_W18, th_I19, th_W19, th_I20, th_W20, th_I21, th_W21, th_R22, th_R23, th_R24, th_R25, th_R26, th_R27, th_R28, th_I29, th_W29, th_I30, th_W30, th_I31, th_W31, th_R32, th_I33, th_W33, th_A0, th_S0, th_L0, th_A1, th_S1, th_L1, th_A2, th_S2, th_L2, th_A3, th_S3, th_L3, th_A4, th_S4, th_L4, th_A5, th_S5, th_L5, th_A6, th_S6, th_L6, th_A7, th_S7, th_L7, th_A8, th_S8, th_L8, th_A9, th_S9, th_L9, th_A10, th_S10, th_L10, th_A11, th_S11, th_L11, th_A12, th_S12, th_L12, th_A13, th_S13, th_L13, th_A14, th_S14, th_L14, th_A15, th_S15, th_L15, th_A16, th_S16, th_L16, th_A17, th_S17, th_L17, hb_some, hbx_inr, hbx_inl, Option.bind_some, iLT_in, iLE_in, iEQ_in, iIN_in, rtZ_in, rtC_in, rtB_in, if_pos]
  by_cases g : u.2 0 3 ≤ k
  · rw [if_pos g]
    refine ⟨u, rfl, h1, hu, ?_, h5⟩
    rw [← h6, List.drop_eq_nil_of_le (by omega), List.take_of_length_le (by omega)]
    rfl
  · have hat := ml_at (t := u) (i := k) (by omega)
    have hlt : k < (ml u).length := by omega
    rw [List.getElem?_eq_getElem hlt] at hat
    have hat := Option.some.inj hat
    have hmem := h4 _ (List.getElem_mem hlt)
    rw [hat] at hmem
    dsimp only at hmem
    obtain ⟨⟨m1, m2⟩, m3, m4⟩ := hmem
    have e2 := h1.2.2 2 (by omega) (by omega) (by omega)
    rw [if_neg g]
    rw [x_isRight hu (by omega) m1 m2 m3 m4]
    simp only [hb_some, iEQ_bZ]
    have hth : there u (u.2 0 (456 + 2 * (k : Int) + 1)) (u.2 0 (456 + 2 * (k : Int))) = there t (u.2 0 (456 + 2 * (k : Int) + 1)) (u.2 0 (456 + 2 * (k : Int))) := there_Sm ht h1 m1 (by omega) m3
    rw [hth]
    have hdrop : (ml u).drop k = (u.2 0 (456 + 2 * (k : Int) + 1), u.2 0 (456 + 2 * (k : Int))) :: (ml u).drop (k + 1) := by
      rw [List.drop_eq_getElem_cons hlt, hat]
    by_cases g2 : (there t (u.2 0 (456 + 2 * (k : Int) + 1)) (u.2 0 (456 + 2 * (k : Int))) && decide ((u.2 0 (456 + 2 * (k : Int) + 1), u.2 0 (456 + 2 * (k : Int))) ∉ (ml u).take k)) = true
    · rw [if_pos g2]
      unfold b_X9_cleans_33
      rw [x_one]
      simp only [hb_some, g2, bZ, if_true]
      refine ih (k + 1, u) ⟨h1, hu, by dsimp only; omega, h4, h5, ?_⟩ (by dsimp only; omega)
      dsimp only
      rw [← h6, hdrop]
      rw [Bool.and_eq_true, decide_eq_true_eq] at g2
      show _ = clr _ _ (_ :: _)
      conv => rhs; unfold clr
      rw [if_pos g2]
      congr 1
      rw [List.take_add_one, List.getElem?_eq_getElem hlt, hat]
      rfl
    · rw [if_neg g2]
      obtain ⟨u', p1, p2, p3, p4⟩ := x_takesOut (b := b) (h := h) hu (k := k) (by omega) (by omega)
      simp (discharger := omega) only [th_rcv, th_R0, th_R1, th_R2, th_R3, th_R4, th_R5, th_I6, th_W6, th_I7, th_W7, th_R8, th_R9, th_R10, th_R11, th_I12, th_W12, th_I13, th_W13, th_I14, th_W14, th_I15, th_W15, th_I16, th_W16, th_I17, th_W17, th_I18, th_W18, th_I19, th_W19, th_I20, th_W20, th_I21, th_W21, th_R22, th_R23, th_R24, th_R25, th_R26, th_R27, th_R28, th_I29, th_W29, th_I30, th_W30, th_I31, th_W31, th_R32, th_I33, th_W33, th_A0, th_S0, th_L0, th_A1, th_S1, th_L1, th_A2, th_S2, th_L2, th_A3, th_S3, th_L3, th_A4, th_S4, th_L4, th_A5, th_S5, th_L5, th_A6, th_S6, th_L6, th_A7, th_S7, th_L7, th_A8, th_S8, th_L8, th_A9, th_S9, th_L9, th_A10, th_S10, th_L10, th_A11, th_S11, th_L11, th_A12, th_S12, th_L12, th_A13, th_S13, th_L13, th_A14, th_S14, th_L14, th_A15, th_S15, th_L15, th_A16, th_S16, th_L16, th_A17, th_S17, th_L17, hb_some, hbx_inr, hbx_inl, Option.bind_some, iLT_in, iLE_in, iEQ_in, iIN_in, rtZ_in, rtC_in, rtB_in, if_pos, p1, x_counts]
      unfold b_X9_cleans_33
      rw [x_one]
      have g3 := Bool.eq_false_iff.mpr g2
      simp only [hb_some, g3, bZ, Bool.false_eq_true, if_false]
      have q0 : ∀ i, (upN u'.2 0 (upI (u'.2 0) (4 + 4) (u'.2 0 (4 + 4) + 1))) 0 i = if i = 8 then u'.2 0 8 + 1 else u'.2 0 i := by
        intro i
        rw [upN_0]
        rfl
      have q3 : (upN u'.2 0 (upI (u'.2 0) (4 + 4) (u'.2 0 (4 + 4) + 1))) 0 3 = u.2 0 3 - 1 := by
        rw [q0, if_neg (by omega), p4, if_pos rfl]
      have e8 : u'.2 0 8 = u.2 0 8 := by rw [p4, if_neg (by omega), if_neg (by omega)]
      have hSm : tSm u (u'.1, upN u'.2 0 (upI (u'.2 0) (4 + 4) (u'.2 0 (4 + 4) + 1))) := by
        refine ⟨p2, fun j hj => ?_, fun i i1 i2 i3 => ?_⟩
        · dsimp only; rw [upN_ne hj]; exact p3 j hj
        · dsimp only; rw [q0, if_neg i2, p4, if_neg i1, if_neg (by omega)]
      have hml : ml (u'.1, upN u'.2 0 (upI (u'.2 0) (4 + 4) (u'.2 0 (4 + 4) + 1))) = (ml u).eraseIdx k := by
        rw [← ml_takesOut (by omega) p4]
        have e3 : u'.2 0 3 = u.2 0 3 - 1 := by rw [p4, if_pos rfl]
        refine ml_ext (by dsimp only; omega) ?_ (fun i hi => ?_)
        · dsimp only; rw [q3, ← e3]; exact ml_len (by omega)
        · dsimp only at hi ⊢
          rw [ml_at (by omega), q0, q0, if_neg (by omega), if_neg (by omega)]
      refine ih (k, _) ⟨h1.trans hSm, tOK_Sm hu hSm ?_ ?_, ?_, ?_, ?_, ?_⟩ ?_
      · dsimp only; rw [q3]; omega
      · intro i hi
        dsimp only
        rw [q0, if_neg (by omega), p4, if_neg (by omega)]
        by_cases g4 : 456 + 2 * (k : Int) ≤ i ∧ i < 456 + 2 * (u.2 0 3 - 1)
        · rw [if_pos g4]; exact k1 _ (by omega)
        · rw [if_neg g4]; exact k1 _ (by omega)
      · dsimp only; rw [q3]; omega
      · intro m hmm
        rw [hml] at hmm
        have := h4 m (List.mem_of_mem_eraseIdx hmm)
        have e2' : (upN u'.2 0 (upI (u'.2 0) (4 + 4) (u'.2 0 (4 + 4) + 1))) 0 2 = u.2 0 2 := by rw [q0, if_neg (by omega), p4, if_neg (by omega), if_neg (by omega)]
        dsimp only
        rw [e2']
        exact this
      · dsimp only; rw [q3, q0, if_pos rfl, e8, h5]; omega
      · dsimp only
        rw [hml, ← h6, hdrop, List.eraseIdx_eq_take_drop_succ]
        have hk : ((ml u).take k).length = k := by rw [List.length_take]; omega
        rw [List.take_left' hk, List.drop_left' hk]
        conv => rhs; unfold clr
        rw [Bool.and_eq_true, decide_eq_true_eq] at g2
        rw [if_neg g2]
      · dsimp only; rw [q3]; omega
