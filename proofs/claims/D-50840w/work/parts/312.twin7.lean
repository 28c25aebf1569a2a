/-! STAGE 2j: the reference: letters put in and taken out. -/
set_option maxRecDepth 100000
def kSh (q z : Int) (l : List (Int × Int)) : List (Int × Int) := l.map fun m => if q ≤ m.2 then (m.1, m.2 + z) else m
theorem kMl_sh {r r' : Int → Int} {q z : Int} (h3 : 0 ≤ r 3) (h : ∀ i, r' i = if 456 ≤ i ∧ i < 456 + 2 * r 3 ∧ i % 2 = 0 ∧ q ≤ r i then r i + z else r i) : kMl r' = kSh q z (kMl r) := by
  have e3 : r' 3 = r 3 := by rw [h, if_neg (by omega)]
  unfold kMl kSh
  rw [e3, List.map_map]
  refine List.map_congr_left fun i hi => ?_
  have hi := List.mem_range.mp hi
  show (r' (456 + 2 * (i : Int) + 1), r' (456 + 2 * (i : Int))) = if q ≤ r (456 + 2 * (i : Int)) then (r (456 + 2 * (i : Int) + 1), r (456 + 2 * (i : Int)) + z) else (r (456 + 2 * (i : Int) + 1), r (456 + 2 * (i : Int)))
  rw [h, h, if_neg (by omega)]
  by_cases g : q ≤ r (456 + 2 * (i : Int))
  · rw [if_pos g, if_pos (by omega)]
  · rw [if_neg g, if_neg (by omega)]
def kIn1 (K : SK) (q c : Int) : SK := (kn K + 1, fun k => if k < q then kt K k else if k = q then c else kt K (k - 1), kf K, kp K, kl K, kr K, kSh q 1 (km K), upI (ka K) 1 (ka K 1 + 1))
def kIns (K : SK) (q c : Int) : Int × SK := if kn K = 200 then (-2, K) else if kn K < q then (-4, K) else (kn K + 1, kCl (kIn1 K q c))
def kEr1 (K : SK) (q : Int) : SK := (kn K - 1, fun k => if k < q then kt K k else kt K (k + 1), kf K, kp K, kl K, kr K, kSh (q + 1) (-1) (km K), upI (ka K) 2 (ka K 2 + 1))
def kEra (K : SK) (q : Int) : Int × SK := if kn K = 1 then (-3, K) else if kn K ≤ q then (-4, K) else (kn K - 1, kCl (kEr1 K q))
/-- places of marks: as far as they can come -/
def kPl (K : SK) : Prop := ∀ m ∈ km K, m.2 < 500
theorem kOK_in1 {K : SK} (hk : kOK K) (hp : kPl K) {q c : Int} (hq : 0 ≤ q) (hq2 : q ≤ kn K) (hn : kn K < 200) (h : 0 ≤ c) (h2 : c < 26) : kOK (kIn1 K q c) := by
  obtain ⟨g1, g2, g3, g4, g5, g6, g7, g8⟩ := hk
  refine ⟨⟨by show 1 ≤ kn K + 1; omega, by show kn K + 1 ≤ 200; omega⟩, g2, g3, ?_, fun k a b => ?_, g6, g7, fun m hm => ?_⟩
  · show (kSh q 1 (km K)).length ≤ 60
    unfold kSh
    rw [List.length_map]; exact g4
  · have b : k < kn K + 1 := b
    show 0 ≤ (if k < q then kt K k else if k = q then c else kt K (k - 1)) ∧ (if k < q then kt K k else if k = q then c else kt K (k - 1)) < 26
    by_cases e : k < q
    · rw [if_pos e]; exact g5 k a (by omega)
    · rw [if_neg e]
      by_cases e2 : k = q
      · rw [if_pos e2]; omega
      · rw [if_neg e2]; exact g5 (k - 1) (by omega) (by omega)
  · obtain ⟨x, hx, rfl⟩ := List.mem_map.mp hm
    have := g8 x hx
    have := hp x hx
    show (0 ≤ (if q ≤ x.2 then (x.1, x.2 + 1) else x).1 ∧ (if q ≤ x.2 then (x.1, x.2 + 1) else x).1 < kp K) ∧ _
    by_cases e : q ≤ x.2
    · rw [if_pos e]; exact ⟨by dsimp only; omega, by dsimp only; omega, by dsimp only; omega⟩
    · rw [if_neg e]; omega
theorem kOK_er1 {K : SK} (hk : kOK K) {q : Int} (hq : 0 ≤ q) (hq2 : q < kn K) (hn : 1 < kn K) : kOK (kEr1 K q) := by
  obtain ⟨g1, g2, g3, g4, g5, g6, g7, g8⟩ := hk
  refine ⟨⟨by show 1 ≤ kn K - 1; omega, by show kn K - 1 ≤ 200; omega⟩, g2, g3, ?_, fun k a b => ?_, g6, g7, fun m hm => ?_⟩
  · show (kSh (q + 1) (-1) (km K)).length ≤ 60
    unfold kSh
    rw [List.length_map]; exact g4
  · have b : k < kn K - 1 := b
    show 0 ≤ (if k < q then kt K k else kt K (k + 1)) ∧ (if k < q then kt K k else kt K (k + 1)) < 26
    by_cases e : k < q
    · rw [if_pos e]; exact g5 k a (by omega)
    · rw [if_neg e]; exact g5 (k + 1) (by omega) (by omega)
  · obtain ⟨x, hx, rfl⟩ := List.mem_map.mp hm
    have := g8 x hx
    show (0 ≤ (if q + 1 ≤ x.2 then (x.1, x.2 + (-1)) else x).1 ∧ (if q + 1 ≤ x.2 then (x.1, x.2 + (-1)) else x).1 < kp K) ∧ _
    by_cases e : q + 1 ≤ x.2
    · rw [if_pos e]; exact ⟨by dsimp only; omega, by dsimp only; omega, by dsimp only; omega⟩
    · rw [if_neg e]; omega
theorem kIns_eq {K K' : SK} (h : kEq K K') (hk : kOK K) (hp : kPl K) {q c : Int} (hq : 0 ≤ q) (hc : 0 ≤ c) (hc2 : c < 26) : (kIns K' q c).1 = (kIns K q c).1 ∧ kEq (kIns K q c).2 (kIns K' q c).2 := by
  have hh := h
  obtain ⟨h1, h2, h3, h4, h5, h6, h7, h8⟩ := h
  unfold kIns
  rw [h1]
  by_cases g0 : kn K = 200
  · rw [if_pos g0, if_pos g0]; exact ⟨rfl, hh⟩
  · rw [if_neg g0, if_neg g0]
    by_cases g : kn K < q
    · rw [if_pos g, if_pos g]; exact ⟨rfl, hh⟩
    · rw [if_neg g, if_neg g]
      have := hk.1
      refine ⟨rfl, kCl_eq ⟨by show kn K' + 1 = kn K + 1; rw [h1], h2, h3, by show kSh q 1 (km K') = _; rw [h4]; rfl, fun k a b => ?_, h6, h7, fun a b d => ?_⟩ (kOK_in1 hk hp hq (by omega) (by omega) hc hc2)⟩
      · have b : k < kn K + 1 := b
        show (if k < q then kt K' k else if k = q then c else kt K' (k - 1)) = if k < q then kt K k else if k = q then c else kt K (k - 1)
        by_cases e : k < q
        · rw [if_pos e, if_pos e]; exact h5 k a (by omega)
        · rw [if_neg e, if_neg e]
          by_cases e2 : k = q
          · rw [if_pos e2, if_pos e2]
          · rw [if_neg e2, if_neg e2]; exact h5 (k - 1) (by omega) (by omega)
      · show upI (ka K') 1 _ a = upI (ka K) 1 _ a
        by_cases e : a = 1
        · rw [e, upI_eq, upI_eq, h8 1 (by omega) (by omega)]
        · rw [upI_ne e, upI_ne e]; exact h8 a b d
theorem kEra_eq {K K' : SK} (h : kEq K K') (hk : kOK K) {q : Int} (hq : 0 ≤ q) : (kEra K' q).1 = (kEra K q).1 ∧ kEq (kEra K q).2 (kEra K' q).2 := by
  have hh := h
  obtain ⟨h1, h2, h3, h4, h5, h6, h7, h8⟩ := h
  unfold kEra
  rw [h1]
  by_cases g0 : kn K = 1
  · rw [if_pos g0, if_pos g0]; exact ⟨rfl, hh⟩
  · rw [if_neg g0, if_neg g0]
    by_cases g : kn K ≤ q
    · rw [if_pos g, if_pos g]; exact ⟨rfl, hh⟩
    · rw [if_neg g, if_neg g]
      have := hk.1
      refine ⟨rfl, kCl_eq ⟨by show kn K' - 1 = kn K - 1; rw [h1], h2, h3, by show kSh (q + 1) (-1) (km K') = _; rw [h4]; rfl, fun k a b => ?_, h6, h7, fun a b d => ?_⟩ (kOK_er1 hk hq (by omega) (by omega))⟩
      · have b : k < kn K - 1 := b
        show (if k < q then kt K' k else kt K' (k + 1)) = if k < q then kt K k else kt K (k + 1)
        by_cases e : k < q
        · rw [if_pos e, if_pos e]; exact h5 k a (by omega)
        · rw [if_neg e, if_neg e]; exact h5 (k + 1) (by omega) (by omega)
      · show upI (ka K') 2 _ a = upI (ka K) 2 _ a
        by_cases e : a = 2
        · rw [e, upI_eq, upI_eq, h8 2 (by omega) (by omega)]
        · rw [upI_ne e, upI_ne e]; exact h8 a b d
