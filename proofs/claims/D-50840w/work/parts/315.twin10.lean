/-! STAGE 2m: the reference: marks made and taken out. -/
set_option maxRecDepth 100000
def kUnm (K : SK) (k : Int) : Int × SK := if ((km K).length : Int) ≤ k then (-5, K) else (((km K).length : Int) - 1, (kn K, kt K, kf K, kp K, kl K, kr K, (km K).eraseIdx k.toNat, upI (ka K) 5 (ka K 5 + 1)))
theorem kUnm_eq {K K' : SK} (h : kEq K K') {k : Int} : (kUnm K' k).1 = (kUnm K k).1 ∧ kEq (kUnm K k).2 (kUnm K' k).2 := by
  have hh := h
  obtain ⟨h1, h2, h3, h4, h5, h6, h7, h8⟩ := h
  unfold kUnm
  rw [h4]
  by_cases g : ((km K).length : Int) ≤ k
  · rw [if_pos g, if_pos g]; exact ⟨rfl, hh⟩
  · rw [if_neg g, if_neg g]
    refine ⟨rfl, h1, h2, h3, rfl, h5, h6, h7, fun a b d => ?_⟩
    show upI (ka K') 5 _ a = upI (ka K) 5 _ a
    by_cases e : a = 5
    · rw [e, upI_eq, upI_eq, h8 5 (by omega) (by omega)]
    · rw [upI_ne e, upI_ne e]; exact h8 a b d
theorem kOf_len {t : TS} (h : 0 ≤ t.2 0 3) : ((km (kOf (t.2 0))).length : Int) = t.2 0 3 := ml_len h
/-- as it was but for marks and accounts -/
theorem kEq_mk {t u : TS} {l : List (Int × Int)} {a : Int → Int} (hk : kOK (kOf (t.2 0))) (hs : ∀ i, i < 456 → i ≠ 3 → i < 4 ∨ 12 ≤ i → u.2 0 i = t.2 0 i) (hm : ml u = l) (ha : ∀ i, 0 ≤ i → i < 8 → u.2 0 (4 + i) = a i) :
    kEq (kn (kOf (t.2 0)), kt (kOf (t.2 0)), kf (kOf (t.2 0)), kp (kOf (t.2 0)), kl (kOf (t.2 0)), kr (kOf (t.2 0)), l, a) (kOf (u.2 0)) := by
  have h1 : 1 ≤ t.2 0 1 ∧ t.2 0 1 ≤ 200 := hk.1
  have h2 : 0 ≤ t.2 0 2 ∧ t.2 0 2 ≤ 8 := hk.2.2.1
  refine ⟨hs 1 (by omega) (by omega) (by omega), hs 0 (by omega) (by omega) (by omega), hs 2 (by omega) (by omega) (by omega), hm, fun k a b => ?_, fun p a b => ?_, fun p k a b c d => ?_, ha⟩
  · have b : k < t.2 0 1 := b
    exact hs _ (by omega) (by omega) (by omega)
  · have b : p < t.2 0 2 := b
    exact hs _ (by omega) (by omega) (by omega)
  · have b : p < t.2 0 2 := b
    have d2 := (hk.2.2.2.2.2.1 p a b).2
    have d : k < kl (kOf (t.2 0)) p := d
    exact hs _ (by omega) (by omega) (by omega)
theorem kOK_mk {K : SK} (hk : kOK K) {l : List (Int × Int)} {a : Int → Int} (h : l.length ≤ 60) (h2 : ∀ m ∈ l, (0 ≤ m.1 ∧ m.1 < kp K) ∧ 0 ≤ m.2 ∧ m.2 < 1000) : kOK (kn K, kt K, kf K, kp K, kl K, kr K, l, a) := by
  obtain ⟨g1, g2, g3, g4, g5, g6, g7, g8⟩ := hk
  exact ⟨g1, g2, g3, h, g5, g6, g7, h2⟩
theorem y_unmarkNow {b : Nat} {t : TS} {h : HP} {k : Int} (ht : tGo t) (hk0 : 0 ≤ k) (hk1 : k < 1000) : tCh b t h (f_X9_unmarkNow b k (TH b t h)) (kUnm (kOf (t.2 0)) k) := by
  have hk := ht.1.2
  have hl := kOf_len ht.2
  have hok := tPl ht
  unfold tCh kUnm
  rw [hl]
  unfold f_X9_unmarkNow
  have h60 := hok.2.2.2.2.1
  simp (discharger := omega) only [th_rcv, th_R0, th_R1, th_R2, th_R3, th_R4, th_R5, th_I6, th_W6, th_I7, th_W7, th_R8, th_R9, th_R10, th_R11, th_I12, th_W12, th_I13, th_W13, th_I14, th_W14, th_I15, th_W15, th_I16, th_W16, th_I17, th_W17, th_I18, th_W18, th_I19, th_W19, th_I20, th_W20, th_I21, th_W21, th_R22, th_R23, th_R24, th_R25, th_R26, th_R27, th_R28, th_I29, th_W29, th_I30, th_W30, th_I31, th_W31, th_R32, th_I33, th_W33, th_A0, th_S0, th_L0, th_A1, th_S1, th_L1, th_A2, th_S2, th_L2, th_A3, th_S3, th_L3, th_A4, th_S4, th_L4, th_A5, th_S5, th_L5, th_A6, th_S6, th_L6, th_A7, th_S7, th_L7, th_A8, th_S8, th_L8, th_A9, th_S9, th_L9, th_A10, th_S10, th_L10, th_A11, th_S11, th_L11, th_A12, th_S12, th_L12, th_A13, th_S13, th_L13, th_A14, th_S14, th_L14, th_A15, th_S15, th_L15, th_A16, th_S16, th_L16, th_A17, th_S17, th_L17, hb_some, hbx_inr, hbx_inl, Option.bind_some, iLT_in, iLE_in, iEQ_in, iIN_in, rtZ_in, rtC_in, rtB_in, if_pos]
  by_cases g : k < t.2 0 3
  · obtain ⟨n, rfl⟩ : ∃ n : Nat, k = n := ⟨k.toNat, by omega⟩
    obtain ⟨u, p1, p2, p3, p4⟩ := x_takesOut (b := b) (h := h) hok hk0 g
    rw [if_pos g, if_neg (by omega), p1]
    simp (discharger := omega) only [th_rcv, th_R0, th_R1, th_R2, th_R3, th_R4, th_R5, th_I6, th_W6, th_I7, th_W7, th_R8, th_R9, th_R10, th_R11, th_I12, th_W12, th_I13, th_W13, th_I14, th_W14, th_I15, th_W15, th_I16, th_W16, th_I17, th_W17, th_I18, th_W18, th_I19, th_W19, th_I20, th_W20, th_I21, th_W21, th_R22, th_R23, th_R24, th_R25, th_R26, th_R27, th_R28, th_I29, th_W29, th_I30, th_W30, th_I31, th_W31, th_R32, th_I33, th_W33, th_A0, th_S0, th_L0, th_A1, th_S1, th_L1, th_A2, th_S2, th_L2, th_A3, th_S3, th_L3, th_A4, th_S4, th_L4, th_A5, th_S5, th_L5, th_A6, th_S6, th_L6, th_A7, th_S7, th_L7, th_A8, th_S8, th_L8, th_A9, th_S9, th_L9, th_A10, th_S10, th_L10, th_A11, th_S11, th_L11, th_A12, th_S12, th_L12, th_A13, th_S13, th_L13, th_A14, th_S14, th_L14, th_A15, th_S15, th_L15, th_A16, th_S16, th_L16, th_A17, th_S17, th_L17, hb_some, hbx_inr, hbx_inl, Option.bind_some, iLT_in, iLE_in, iEQ_in, iIN_in, rtZ_in, rtC_in, rtB_in, if_pos, x_counts]
    have ex : ∃ v : TS, v = (u.1, upN u.2 0 (upI (u.2 0) (4 + 5) (u.2 0 (4 + 5) + 1))) := ⟨_, rfl⟩
    obtain ⟨v, hv⟩ := ex
    have v0 : ∀ i, v.2 0 i = if i = 9 then u.2 0 9 + 1 else u.2 0 i := by
      intro i
      rw [hv]; dsimp only; rw [upN_0]
      by_cases e : i = 9
      · have e' : i = 4 + 5 := e
        rw [if_pos e, e', upI_eq]; rfl
      · rw [if_neg e, upI_ne (by omega)]
    have e3 : u.2 0 3 = t.2 0 3 - 1 := by rw [p4, if_pos rfl]
    have v3 : v.2 0 3 = t.2 0 3 - 1 := by rw [v0, if_neg (by omega), e3]
    have hml : ml v = (ml t).eraseIdx n := by
      rw [← ml_takesOut (t := t) (t' := u) (k := n) g p4]
      unfold ml
      rw [v3, e3]
      refine List.map_congr_left fun i _ => ?_
      rw [v0, v0, if_neg (by omega), if_neg (by omega)]
    have q3 : upN u.2 0 (upI (u.2 0) (4 + 5) (u.2 0 (4 + 5) + 1)) 0 3 = t.2 0 3 - 1 := by rw [← v3, hv]
    rw [q3, ← hv, Int.toNat_natCast]
    have hE : kEq (kn (kOf (t.2 0)), kt (kOf (t.2 0)), kf (kOf (t.2 0)), kp (kOf (t.2 0)), kl (kOf (t.2 0)), kr (kOf (t.2 0)), (km (kOf (t.2 0))).eraseIdx n, upI (ka (kOf (t.2 0))) 5 (ka (kOf (t.2 0)) 5 + 1)) (kOf (v.2 0)) := by
      refine kEq_mk hk (fun i a b c => ?_) hml (fun i a b => ?_)
      · rw [v0, if_neg (by omega), p4, if_neg b, if_neg (by omega)]
      · show v.2 0 (4 + i) = upI (fun a => t.2 0 (4 + a)) 5 (t.2 0 9 + 1) i
        rw [v0, p4, p4]
        by_cases e : i = 5
        · rw [e, upI_eq, if_pos (by omega), if_neg (by omega), if_neg (by omega)]
        · rw [upI_ne e, if_neg (by omega), if_neg (by omega), if_neg (by omega)]
    refine ⟨v, rfl, ?_, ⟨⟨fun i hi => ?_, kOK_eq hE (kOK_mk hk ?_ fun m hm => ?_)⟩, by rw [v3]; omega⟩, hE, fun p j a b c d => ?_⟩
    · rw [hv]
      exact ⟨p2, fun j a b c d => by dsimp only; rw [upN_ne a]; exact p3 j a⟩
    · rw [v0]
      by_cases e : i = 9
      · omega
      · rw [if_neg e, p4]
        by_cases e2 : i = 3
        · rw [if_pos e2]; omega
        · rw [if_neg e2]
          by_cases e4 : 456 + 2 * (n : Int) ≤ i ∧ i < 456 + 2 * (t.2 0 3 - 1)
          · rw [if_pos e4]; exact ht.1.1 _ (by omega)
          · rw [if_neg e4]; exact ht.1.1 _ hi
    · have := List.length_eraseIdx_le (km (kOf (t.2 0))) n
      have := hk.2.2.2.1
      omega
    · exact hk.2.2.2.2.2.2.2 m (List.mem_of_mem_eraseIdx hm)
    · rw [v0, if_neg (by omega), p4, if_neg (by omega), if_neg (by omega)]
  · rw [if_neg g, if_pos (by omega)]
    exact ⟨t, rfl, tKp.refl t, ht, kEq.refl _, nEq.refl _⟩
/-- marks that are made, place by place -/
def mkl (g : Int → Bool) (p : Int) (l : List (Int × Int)) (i : Int) : Nat → List (Int × Int)
  | 0 => l
  | n + 1 => if l.length < 60 ∧ g i = true ∧ (p, i) ∉ l then mkl g p (l ++ [(p, i)]) (i + 1) n else mkl g p l (i + 1) n
theorem mkl_congr {g g' : Int → Bool} {p : Int} {l : List (Int × Int)} {i : Int} {n : Nat} (h : ∀ k, i ≤ k → k < i + n → g k = g' k) : mkl g p l i n = mkl g' p l i n := by
  induction n generalizing l i with
  | zero => rfl
  | succ n ih =>
    unfold mkl
    rw [h i (by omega) (by omega), ih (fun k a b => h k (by omega) (by omega)), ih (fun k a b => h k (by omega) (by omega))]
theorem mkl_full {g : Int → Bool} {p : Int} {l : List (Int × Int)} {i : Int} {n : Nat} (h : 60 ≤ l.length) : mkl g p l i n = l := by
  induction n generalizing i with
  | zero => rfl
  | succ n ih =>
    unfold mkl
    rw [if_neg (by omega), ih]
theorem mkl_len {g : Int → Bool} {p : Int} {l : List (Int × Int)} {i : Int} {n : Nat} (h : l.length ≤ 60) : l.length ≤ (mkl g p l i n).length ∧ (mkl g p l i n).length ≤ 60 := by
  induction n generalizing l i with
  | zero => exact ⟨Nat.le_refl _, h⟩
  | succ n ih =>
    unfold mkl
    by_cases e : l.length < 60 ∧ g i = true ∧ (p, i) ∉ l
    · rw [if_pos e]
      have := ih (l := l ++ [(p, i)]) (i := i + 1) (by simp; omega)
      simp at this
      omega
    · rw [if_neg e]; exact ih h
theorem mkl_mem {g : Int → Bool} {p : Int} {l : List (Int × Int)} {i : Int} {n : Nat} {m : Int × Int} (h : m ∈ mkl g p l i n) : m ∈ l ∨ (m.1 = p ∧ i ≤ m.2 ∧ m.2 < i + n ∧ g m.2 = true) := by
  induction n generalizing l i with
  | zero => exact Or.inl h
  | succ n ih =>
    unfold mkl at h
    by_cases e : l.length < 60 ∧ g i = true ∧ (p, i) ∉ l
    · rw [if_pos e] at h
      rcases ih h with h1 | h1
      · rcases List.mem_append.mp h1 with h2 | h2
        · exact Or.inl h2
        · rw [List.mem_singleton.mp h2]
          exact Or.inr ⟨rfl, by dsimp only; omega, by dsimp only; omega, e.2.1⟩
      · exact Or.inr ⟨h1.1, by omega, by omega, h1.2.2.2⟩
    · rw [if_neg e] at h
      rcases ih h with h1 | h1
      · exact Or.inl h1
      · exact Or.inr ⟨h1.1, by omega, by omega, h1.2.2.2⟩
def kMkl (K : SK) (p : Int) : List (Int × Int) := mkl (fun q => kTh K p q) p (km K) 0 (kn K).toNat
def kMrk (K : SK) (p : Int) : Int × SK := (((kMkl K p).length : Int) - ((km K).length : Int), (kn K, kt K, kf K, kp K, kl K, kr K, kMkl K p, upI (ka K) 3 (ka K 3 + (((kMkl K p).length : Int) - ((km K).length : Int)))))
theorem kMrk_eq {K K' : SK} (h : kEq K K') {p : Int} (hp : 0 ≤ p) (hp2 : p < kp K) : (kMrk K' p).1 = (kMrk K p).1 ∧ kEq (kMrk K p).2 (kMrk K' p).2 := by
  have e : kMkl K' p = kMkl K p := by
    unfold kMkl
    rw [h.1, h.2.2.2.1]
    exact mkl_congr fun k a _ => kTh_eq h hp hp2 a
  obtain ⟨h1, h2, h3, h4, h5, h6, h7, h8⟩ := h
  unfold kMrk
  rw [e, h4]
  refine ⟨rfl, h1, h2, h3, rfl, h5, h6, h7, fun a b d => ?_⟩
  show upI (ka K') 3 _ a = upI (ka K) 3 _ a
  by_cases e : a = 3
  · rw [e, upI_eq, upI_eq, h8 3 (by omega) (by omega)]
  · rw [upI_ne e, upI_ne e]; exact h8 a b d
theorem ml_snoc {t u : TS} {p q : Int} (h0 : 0 ≤ t.2 0 3) (h : ∀ i, u.2 0 i = if i = 3 then t.2 0 3 + 1 else if i = 456 + 2 * t.2 0 3 + 1 then p else if i = 456 + 2 * t.2 0 3 then q else t.2 0 i) : ml u = ml t ++ [(p, q)] := by
  have e3 : u.2 0 3 = t.2 0 3 + 1 := by rw [h, if_pos rfl]
  have hl := ml_len (t := t) h0
  refine ml_ext (by omega) (by rw [List.length_append, e3]; simp; omega) (fun i hi => ?_)
  rw [e3] at hi
  by_cases g : (i : Int) < t.2 0 3
  · have a1 : u.2 0 (456 + 2 * (i : Int) + 1) = t.2 0 (456 + 2 * (i : Int) + 1) := by rw [h, if_neg (by omega), if_neg (by omega), if_neg (by omega)]
    have a2 : u.2 0 (456 + 2 * (i : Int)) = t.2 0 (456 + 2 * (i : Int)) := by rw [h, if_neg (by omega), if_neg (by omega), if_neg (by omega)]
    rw [List.getElem?_append_left (by omega), ml_at g, a1, a2]
  · have a1 : u.2 0 (456 + 2 * (i : Int) + 1) = p := by rw [h, if_neg (by omega), if_pos (by omega)]
    have a2 : u.2 0 (456 + 2 * (i : Int)) = q := by rw [h, if_neg (by omega), if_neg (by omega), if_pos (by omega)]
    rw [List.getElem?_append_right (by omega), show i - (ml t).length = 0 by omega, a1, a2]
    rfl
theorem y_markNow {b : Nat} {t : TS} {h : HP} {p : Int} (ht : tGo t) (hp : 0 ≤ p) (hp2 : p < t.2 0 2) : tCh b t h (f_X9_markNow b p (TH b t h)) (kMrk (kOf (t.2 0)) p) := by
  have hk := ht.1.2
  have hok := tPl ht
  have h1 : 1 ≤ t.2 0 1 ∧ t.2 0 1 ≤ 200 := hk.1
  have h2 : 0 ≤ t.2 0 2 ∧ t.2 0 2 ≤ 8 := hk.2.2.1
  have hl0 := ml_len (t := t) ht.2
  have hkm : km (kOf (t.2 0)) = ml t := rfl
  have h60 : (ml t).length ≤ 60 := hk.2.2.2.1
  unfold tCh
  unfold f_X9_markNow b_X9_markNow_4
  refine fx_FU (bot := fun (_ : Option Nat) (_ _ _ : Int) (_ : HP) => (none : Option (Int × HP))) (body := c_X9_markNow_4)
    (fun F (s : Int × Int × TS) => F (some b) p s.1 s.2.1 (TH b s.2.2 h)) (fun s => (0 ≤ s.2.1 ∧ s.2.1 ≤ t.2 0 1) ∧ tSm t s.2.2 ∧ tIn s.2.2 ∧ (0 ≤ s.2.2.2 0 3 ∧ s.2.2.2 0 3 ≤ 60) ∧ s.1 = s.2.2.2 0 3 - t.2 0 3 ∧ s.2.2.2 0 8 = t.2 0 8 ∧
      mkl (fun q => kTh (kOf (t.2 0)) p q) p (ml s.2.2) s.2.1 (t.2 0 1 - s.2.1).toNat = kMkl (kOf (t.2 0)) p) (fun s => (t.2 0 1 - s.2.1).toNat)
    (fun s v => ∃ t', v = some ((kMrk (kOf (t.2 0)) p).1, TH b t' h) ∧ tKp t t' ∧ tGo t' ∧ kEq (kMrk (kOf (t.2 0)) p).2 (kOf (t'.2 0)) ∧ nEq (t.2 0) (t'.2 0)) ?_
    (0, 0, t) ⟨⟨by dsimp only; omega, by dsimp only; omega⟩, tSm.refl t, ht.1.1, by dsimp only; omega, by dsimp only; omega, rfl, by dsimp only; rw [Int.sub_zero]; rfl⟩ (by dsimp only; omega)
  rintro rec ⟨x, q, u⟩ ⟨⟨h3, h4⟩, h5, h6, h7, h8, h9, h10⟩ ih
  dsimp only at h3 h4 h5 h6 h7 h8 h9 h10 ih ⊢
  have e0 := h5.2.2 0 (by omega) (by omega) (by omega)
  have e1 := h5.2.2 1 (by omega) (by omega) (by omega)
  have e2 := h5.2.2 2 (by omega) (by omega) (by omega)
  have hou : tOK u := tOK_Sm hok h5 h7 (fun i hi => h6 i (by omega))
  have hlu := ml_len (t := u) h7.1
  have fin : ml u = kMkl (kOf (t.2 0)) p → ∃ t', b_X9_markNow_110 (some b) x (TH b u h) = some ((kMrk (kOf (t.2 0)) p).1, TH b t' h) ∧ tKp t t' ∧ tGo t' ∧ kEq (kMrk (kOf (t.2 0)) p).2 (kOf (t'.2 0)) ∧ nEq (t.2 0) (t'.2 0) := by
    intro hml
    unfold b_X9_markNow_110 kMrk
    rw [← hml, hkm]
    simp (discharger := omega) only [th_rcv, th_R0, th_R1, th_R2, th_R3, th_R4, th_R5, th_I6, th_W6, th_I7, th_W7, th_R8, th_R9, th_R10, th_R11, th_I12, th_W12, th_I13, th_W13, th_I14, th_W14, th_I15, th_W15, th_I16, th_W16, th_I17, th_W17, th_I18, th_W18, th_I19, th_W19, th_I20, th_W20, th_I21, th_W21, th_R22, th_R23, th_R24, th_R25, th_R26, th_R27, th_R28, th_I29, th_W29, th_I30, th_W30, th_I31, th_W31, th_R32, th_I33, th_W33, th_A0, th_S0, th_L0, th_A1, th_S1, th_L1, th_A2, th_S2, th_L2, th_A3, th_S3, th_L3, th_A4, th_S4, th_L4, th_A5, th_S5, th_L5, th_A6, th_S6, th_L6, th_A7, th_S7, th_L7, th_A8, th_S8, th_L8, th_A9, th_S9, th_L9, th_A10, th_S10, th_L10, th_A11, th_S11, th_L11, th_A12, th_S12, th_L12, th_A13, th_S13, th_L13, th_A14, th_S14, th_L14, th_A15, th_S15, th_L15, th_A16, th_S16, th_L16, th_A17, th_S17, th_L17, hb_some, hbx_inr, hbx_inl, Option.bind_some, iLT_in, iLE_in, iEQ_in, iIN_in, rtZ_in, rtC_in, rtB_in, if_pos, x_counts]
    have ex : ∃ v : TS, v = (u.1, upN u.2 0 (upI (u.2 0) (4 + 3) (u.2 0 (4 + 3) + x))) := ⟨_, rfl⟩
    obtain ⟨v, hv⟩ := ex
    have v0 : ∀ i, v.2 0 i = if i = 7 then u.2 0 7 + x else u.2 0 i := by
      intro i
      rw [hv]; dsimp only; rw [upN_0]
      by_cases e : i = 7
      · have e' : i = 4 + 3 := e
        rw [if_pos e, e', upI_eq]; rfl
      · rw [if_neg e, upI_ne (by omega)]
    rw [← hv]
    have v3 : v.2 0 3 = u.2 0 3 := by rw [v0, if_neg (by omega)]
    have hmv : ml v = ml u := by
      unfold ml
      rw [v3]
      refine List.map_congr_left fun i _ => ?_
      rw [v0, v0, if_neg (by omega), if_neg (by omega)]
    have hx : x = ((ml u).length : Int) - ((ml t).length : Int) := by omega
    have hE : kEq (kn (kOf (t.2 0)), kt (kOf (t.2 0)), kf (kOf (t.2 0)), kp (kOf (t.2 0)), kl (kOf (t.2 0)), kr (kOf (t.2 0)), ml u, upI (ka (kOf (t.2 0))) 3 (ka (kOf (t.2 0)) 3 + (((ml u).length : Int) - ((ml t).length : Int)))) (kOf (v.2 0)) := by
      refine kEq_mk hk (fun i a b c => ?_) hmv (fun i a b => ?_)
      · rw [v0, if_neg (by omega)]; exact h5.2.2 i b (by omega) a
      · show v.2 0 (4 + i) = upI (fun a => t.2 0 (4 + a)) 3 (t.2 0 7 + _) i
        rw [v0, ← hx]
        have e7 := h5.2.2 7 (by omega) (by omega) (by omega)
        by_cases e : i = 3
        · rw [e, upI_eq, if_pos (by omega), e7]
        · rw [upI_ne e, if_neg (by omega)]
          by_cases e8 : i = 4
          · rw [e8]; exact h9
          · exact h5.2.2 _ (by omega) (by omega) (by omega)
    refine ⟨v, by rw [hx], ?_, ⟨⟨fun i hi => ?_, kOK_eq hE (kOK_mk hk ?_ fun m hm => ?_)⟩, by rw [v3]; exact h7.1⟩, hE, fun p j a b c d => ?_⟩
    · rw [hv]
      exact ⟨h5.1, fun j a b c d => by dsimp only; rw [upN_ne a]; exact h5.2.1 j a⟩
    · rw [v0]
      by_cases e : i = 7
      · omega
      · rw [if_neg e]; exact h6 i hi
    · omega
    · rw [hml] at hm
      rcases mkl_mem hm with h | h
      · exact hk.2.2.2.2.2.2.2 m h
      · have h22 := h.2.2.1
        have en : kn (kOf (t.2 0)) = t.2 0 1 := rfl
        rw [en] at h22
        exact ⟨⟨by omega, by rw [h.1]; exact hp2⟩, by omega, by omega⟩
    · rw [v0, if_neg (by omega)]; exact h5.2.2 _ (by omega) (by omega) (by omega)
  unfold c_X9_markNow_4
  simp (discharger := omega) only [th_rcv, th_R0, th_R1, th_R2, th_R3, th_R4, th_R5, th_I6, th_W6, th_I7, th_W7, th_R8, th_R9, th_R10, th_R11, th_I12, th_W12, th_I13, th_W13, th_I14, th_W14, th_I15, th_W15, th_I16, th_W16, th_I17, th_W17, th_I18, th_W18, th_I19, th_W19, th_I20, th_W20, th_I21, th_W21, th_R22, th_R23, th_R24, th_R25, th_R26, th_R27, th_R28, th_I29, th_W29, th_I30, th_W30, th_I31, th_W31, th_R32, th_I33, th_W33, th_A0, th_S0, th_L0, th_A1, th_S1, th_L1, th_A2, th_S2, th_L2, th_A3, th_S3, th_L3, th_A4, th_S4, th_L4, th_A5, th_S5, th_L5, th_A6, th_S6, th_L6, th_A7, th_S7, th_L7, th_A8, th_S8, th_L8, th_A9, th_S9, th_L9, th_A10, th_S10, th_L10, th_A11, th_S11, th_L11, th_A12, th_S12, th_L12, th_A13, th_S13, th_L13, th_A14, th_S14, th_L14, th_A15, th_S15, th_L15, th_A16, th_S16, th_L16, th_A17, th_S17, th_L17, hb_some, hbx_inr, hbx_inl, Option.bind_some, iLT_in, iLE_in, iEQ_in, iIN_in, rtZ_in, rtC_in, rtB_in, if_pos, e1]
  by_cases g : t.2 0 1 ≤ q
  · rw [if_pos g]
    rw [show (t.2 0 1 - q).toNat = 0 by omega] at h10
    exact fin h10
  · rw [if_neg g]
    by_cases g1 : 60 ≤ u.2 0 3
    · rw [if_pos g1]
      rw [mkl_full (by omega)] at h10
      exact fin h10
    · rw [if_neg g1]
      rw [show (t.2 0 1 - q).toNat = (t.2 0 1 - (q + 1)).toNat + 1 by omega] at h10
      unfold mkl at h10
      have hth : there u p q = kTh (kOf (t.2 0)) p q := by rw [there_Sm hok h5 hp hp2 h3]; exact kOf_there
      unfold b_X9_markNow_104
      rw [x_isThere hou hp (by rw [e2]; exact hp2) h3 (by omega)]
      simp (discharger := omega) only [th_rcv, th_R0, th_R1, th_R2, th_R3, th_R4, th_R5, th_I6, th_W6, th_I7, th_W7, th_R8, th_R9, th_R10, th_R11, th_I12, th_W12, th_I13, th_W13, th_I14, th_W14, th_I15, th_W15, th_I16, th_W16, th_I17, th_W17, th_I18, th_W18, th_I19, th_W19, th_I20, th_W20, th_I21, th_W21, th_R22, th_R23, th_R24, th_R25, th_R26, th_R27, th_R28, th_I29, th_W29, th_I30, th_W30, th_I31, th_W31, th_R32, th_I33, th_W33, th_A0, th_S0, th_L0, th_A1, th_S1, th_L1, th_A2, th_S2, th_L2, th_A3, th_S3, th_L3, th_A4, th_S4, th_L4, th_A5, th_S5, th_L5, th_A6, th_S6, th_L6, th_A7, th_S7, th_L7, th_A8, th_S8, th_L8, th_A9, th_S9, th_L9, th_A10, th_S10, th_L10, th_A11, th_S11, th_L11, th_A12, th_S12, th_L12, th_A13, th_S13, th_L13, th_A14, th_S14, th_L14, th_A15, th_S15, th_L15, th_A16, th_S16, th_L16, th_A17, th_S17, th_L17, hb_some, hbx_inr, hbx_inl, Option.bind_some, iLT_in, iLE_in, iEQ_in, iIN_in, rtZ_in, rtC_in, rtB_in, if_pos, iEQ_bZ, hth]
      by_cases g2 : kTh (kOf (t.2 0)) p q = true
      · rw [if_pos g2, x_markOf h6 (by omega) (by omega) (by omega) (by omega)]
        have hmo := mof_none (t := u) (p := p) (q := q) (m := (u.2 0 3).toNat) (by omega)
        have hmr := mof_le (t := u) (p := p) (q := q) (m := u.2 0 3) (by omega)
        rw [show (((u.2 0 3).toNat : Nat) : Int) = u.2 0 3 by omega, List.take_of_length_le (by omega)] at hmo
        simp (discharger := omega) only [th_rcv, th_R0, th_R1, th_R2, th_R3, th_R4, th_R5, th_I6, th_W6, th_I7, th_W7, th_R8, th_R9, th_R10, th_R11, th_I12, th_W12, th_I13, th_W13, th_I14, th_W14, th_I15, th_W15, th_I16, th_W16, th_I17, th_W17, th_I18, th_W18, th_I19, th_W19, th_I20, th_W20, th_I21, th_W21, th_R22, th_R23, th_R24, th_R25, th_R26, th_R27, th_R28, th_I29, th_W29, th_I30, th_W30, th_I31, th_W31, th_R32, th_I33, th_W33, th_A0, th_S0, th_L0, th_A1, th_S1, th_L1, th_A2, th_S2, th_L2, th_A3, th_S3, th_L3, th_A4, th_S4, th_L4, th_A5, th_S5, th_L5, th_A6, th_S6, th_L6, th_A7, th_S7, th_L7, th_A8, th_S8, th_L8, th_A9, th_S9, th_L9, th_A10, th_S10, th_L10, th_A11, th_S11, th_L11, th_A12, th_S12, th_L12, th_A13, th_S13, th_L13, th_A14, th_S14, th_L14, th_A15, th_S15, th_L15, th_A16, th_S16, th_L16, th_A17, th_S17, th_L17, hb_some, hbx_inr, hbx_inl, Option.bind_some, iLT_in, iLE_in, iEQ_in, iIN_in, rtZ_in, rtC_in, rtB_in, if_pos]
        by_cases g3 : (p, q) ∈ ml u
        · rw [if_neg (fun z => hmo.mp z g3)]
          rw [if_neg (fun z => z.2.2 g3)] at h10
          exact ih (x, q + 1, u) ⟨⟨by dsimp only; omega, by dsimp only; omega⟩, h5, h6, h7, h8, h9, h10⟩ (by dsimp only; omega)
        · rw [if_pos (hmo.mpr g3)]
          rw [if_pos ⟨by omega, g2, g3⟩] at h10
          have w3 : ∀ (f g : Int → Int), upN (upN u.2 0 f) 0 g 0 = g := fun f g => by simp [upN]
          have q1 : upN u.2 0 (upI (u.2 0) (456 + 2 * u.2 0 3) q) 0 3 = u.2 0 3 := by rw [upN_0, upI_ne (by omega)]
          have q2 : upN (upN u.2 0 (upI (u.2 0) (456 + 2 * u.2 0 3) q)) 0 (upI (upN u.2 0 (upI (u.2 0) (456 + 2 * u.2 0 3) q) 0) (456 + 2 * u.2 0 3 + 1) p) 0 3 = u.2 0 3 := by rw [upN_0, upI_ne (by omega), q1]
          simp (discharger := omega) only [th_rcv, th_R0, th_R1, th_R2, th_R3, th_R4, th_R5, th_I6, th_W6, th_I7, th_W7, th_R8, th_R9, th_R10, th_R11, th_I12, th_W12, th_I13, th_W13, th_I14, th_W14, th_I15, th_W15, th_I16, th_W16, th_I17, th_W17, th_I18, th_W18, th_I19, th_W19, th_I20, th_W20, th_I21, th_W21, th_R22, th_R23, th_R24, th_R25, th_R26, th_R27, th_R28, th_I29, th_W29, th_I30, th_W30, th_I31, th_W31, th_R32, th_I33, th_W33, th_A0, th_S0, th_L0, th_A1, th_S1, th_L1, th_A2, th_S2, th_L2, th_A3, th_S3, th_L3, th_A4, th_S4, th_L4, th_A5, th_S5, th_L5, th_A6, th_S6, th_L6, th_A7, th_S7, th_L7, th_A8, th_S8, th_L8, th_A9, th_S9, th_L9, th_A10, th_S10, th_L10, th_A11, th_S11, th_L11, th_A12, th_S12, th_L12, th_A13, th_S13, th_L13, th_A14, th_S14, th_L14, th_A15, th_S15, th_L15, th_A16, th_S16, th_L16, th_A17, th_S17, th_L17, hb_some, hbx_inr, hbx_inl, Option.bind_some, iLT_in, iLE_in, iEQ_in, iIN_in, rtZ_in, rtC_in, rtB_in, if_pos, q1, q2]
          have ex : ∃ v : TS, v = (u.1, upN (upN (upN u.2 0 (upI (u.2 0) (456 + 2 * u.2 0 3) q)) 0 (upI (upN u.2 0 (upI (u.2 0) (456 + 2 * u.2 0 3) q) 0) (456 + 2 * u.2 0 3 + 1) p)) 0 (upI (upN (upN u.2 0 (upI (u.2 0) (456 + 2 * u.2 0 3) q)) 0 (upI (upN u.2 0 (upI (u.2 0) (456 + 2 * u.2 0 3) q) 0) (456 + 2 * u.2 0 3 + 1) p) 0) 3 (u.2 0 3 + 1))) := ⟨_, rfl⟩
          obtain ⟨v, hv⟩ := ex
          have v0 : ∀ i, v.2 0 i = if i = 3 then u.2 0 3 + 1 else if i = 456 + 2 * u.2 0 3 + 1 then p else if i = 456 + 2 * u.2 0 3 then q else u.2 0 i := by
            intro i
            rw [hv]; dsimp only; simp only [upN_0]
            by_cases a1 : i = 3
            · rw [if_pos a1, a1, upI_eq]
            · rw [if_neg a1, upI_ne a1]
              by_cases a2 : i = 456 + 2 * u.2 0 3 + 1
              · rw [if_pos a2, a2, upI_eq]
              · rw [if_neg a2, upI_ne a2]
                by_cases a3 : i = 456 + 2 * u.2 0 3
                · rw [if_pos a3, a3, upI_eq]
                · rw [if_neg a3, upI_ne a3]
          rw [← hv]
          have hmv := ml_snoc (t := u) (u := v) h7.1 v0
          have v3 : v.2 0 3 = u.2 0 3 + 1 := by rw [v0, if_pos rfl]
          refine ih (x + 1, q + 1, v) ⟨⟨by dsimp only; omega, by dsimp only; omega⟩, h5.trans ⟨by rw [hv], fun j a => by rw [hv]; dsimp only; rw [upN_ne a, upN_ne a, upN_ne a], fun i a b c => by rw [v0, if_neg a, if_neg (by omega), if_neg (by omega)]⟩, fun i hi => ?_, by dsimp only; omega, by dsimp only; omega, by dsimp only; rw [v0, if_neg (by omega), if_neg (by omega), if_neg (by omega)]; exact h9, by dsimp only; rw [hmv]; exact h10⟩ (by dsimp only; omega)
          dsimp only
          rw [v0]
          by_cases a1 : i = 3
          · rw [if_pos a1]; omega
          · rw [if_neg a1]
            by_cases a2 : i = 456 + 2 * u.2 0 3 + 1
            · rw [if_pos a2]; omega
            · rw [if_neg a2]
              by_cases a3 : i = 456 + 2 * u.2 0 3
              · rw [if_pos a3]; omega
              · rw [if_neg a3]; exact h6 i hi
      · rw [if_neg g2]
        rw [if_neg (fun z => g2 z.2.1)] at h10
        exact ih (x, q + 1, u) ⟨⟨by dsimp only; omega, by dsimp only; omega⟩, h5, h6, h7, h8, h9, h10⟩ (by dsimp only; omega)
