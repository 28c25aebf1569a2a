/-! STAGE 2C: a quotient of small numbers is a number (floats), by looking at each. -/
set_option maxRecDepth 100000
theorem fp_0 : ∀ n : Fin 201, ∀ m : Fin 20, (FP.fdiv (FP.i2f (iI (n.val : Int))) (FP.i2f (iI ((m.val : Int) + 1)))) &&& 0x7fffffff ≤ 0x7f800000 := by decide +kernel
theorem fp_1 : ∀ n : Fin 201, ∀ m : Fin 20, (FP.fdiv (FP.i2f (iI (n.val : Int))) (FP.i2f (iI ((m.val : Int) + 21)))) &&& 0x7fffffff ≤ 0x7f800000 := by decide +kernel
theorem fp_2 : ∀ n : Fin 201, ∀ m : Fin 20, (FP.fdiv (FP.i2f (iI (n.val : Int))) (FP.i2f (iI ((m.val : Int) + 41)))) &&& 0x7fffffff ≤ 0x7f800000 := by decide +kernel
theorem fp_3 : ∀ n : Fin 201, ∀ m : Fin 20, (FP.fdiv (FP.i2f (iI (n.val : Int))) (FP.i2f (iI ((m.val : Int) + 61)))) &&& 0x7fffffff ≤ 0x7f800000 := by decide +kernel
theorem fp_4 : ∀ n : Fin 201, ∀ m : Fin 20, (FP.fdiv (FP.i2f (iI (n.val : Int))) (FP.i2f (iI ((m.val : Int) + 81)))) &&& 0x7fffffff ≤ 0x7f800000 := by decide +kernel
theorem fp_5 : ∀ n : Fin 201, ∀ m : Fin 20, (FP.fdiv (FP.i2f (iI (n.val : Int))) (FP.i2f (iI ((m.val : Int) + 101)))) &&& 0x7fffffff ≤ 0x7f800000 := by decide +kernel
theorem fp_6 : ∀ n : Fin 201, ∀ m : Fin 20, (FP.fdiv (FP.i2f (iI (n.val : Int))) (FP.i2f (iI ((m.val : Int) + 121)))) &&& 0x7fffffff ≤ 0x7f800000 := by decide +kernel
theorem fp_7 : ∀ n : Fin 201, ∀ m : Fin 20, (FP.fdiv (FP.i2f (iI (n.val : Int))) (FP.i2f (iI ((m.val : Int) + 141)))) &&& 0x7fffffff ≤ 0x7f800000 := by decide +kernel
theorem fp_8 : ∀ n : Fin 201, ∀ m : Fin 20, (FP.fdiv (FP.i2f (iI (n.val : Int))) (FP.i2f (iI ((m.val : Int) + 161)))) &&& 0x7fffffff ≤ 0x7f800000 := by decide +kernel
theorem fp_9 : ∀ n : Fin 201, ∀ m : Fin 20, (FP.fdiv (FP.i2f (iI (n.val : Int))) (FP.i2f (iI ((m.val : Int) + 181)))) &&& 0x7fffffff ≤ 0x7f800000 := by decide +kernel
theorem fDv_small {a c : Int} (h : 0 ≤ a) (h2 : a ≤ 200) (h3 : 1 ≤ c) (h4 : c ≤ 200) : fDv (FP.i2f (iI a)) (FP.i2f (iI c)) = some (FP.fdiv (FP.i2f (iI a)) (FP.i2f (iI c))) := by
  unfold fDv
  refine if_pos ?_
  have hn : ((⟨a.toNat, by omega⟩ : Fin 201).val : Int) = a := by show ((a.toNat : Nat) : Int) = a; omega
  by_cases g0 : c < 21
  · have e := fp_0 ⟨a.toNat, by omega⟩ ⟨(c - 1).toNat, by omega⟩
    rw [hn] at e
    have hm : ((⟨(c - 1).toNat, by omega⟩ : Fin 20).val : Int) + 1 = c := by show (((c - 1).toNat : Nat) : Int) + 1 = c; omega
    rw [hm] at e
    exact e
  by_cases g1 : c < 41
  · have e := fp_1 ⟨a.toNat, by omega⟩ ⟨(c - 21).toNat, by omega⟩
    rw [hn] at e
    have hm : ((⟨(c - 21).toNat, by omega⟩ : Fin 20).val : Int) + 21 = c := by show (((c - 21).toNat : Nat) : Int) + 21 = c; omega
    rw [hm] at e
    exact e
  by_cases g2 : c < 61
  · have e := fp_2 ⟨a.toNat, by omega⟩ ⟨(c - 41).toNat, by omega⟩
    rw [hn] at e
    have hm : ((⟨(c - 41).toNat, by omega⟩ : Fin 20).val : Int) + 41 = c := by show (((c - 41).toNat : Nat) : Int) + 41 = c; omega
    rw [hm] at e
    exact e
  by_cases g3 : c < 81
  · have e := fp_3 ⟨a.toNat, by omega⟩ ⟨(c - 61).toNat, by omega⟩
    rw [hn] at e
    have hm : ((⟨(c - 61).toNat, by omega⟩ : Fin 20).val : Int) + 61 = c := by show (((c - 61).toNat : Nat) : Int) + 61 = c; omega
    rw [hm] at e
    exact e
  by_cases g4 : c < 101
  · have e := fp_4 ⟨a.toNat, by omega⟩ ⟨(c - 81).toNat, by omega⟩
    rw [hn] at e
    have hm : ((⟨(c - 81).toNat, by omega⟩ : Fin 20).val : Int) + 81 = c := by show (((c - 81).toNat : Nat) : Int) + 81 = c; omega
    rw [hm] at e
    exact e
  by_cases g5 : c < 121
  · have e := fp_5 ⟨a.toNat, by omega⟩ ⟨(c - 101).toNat, by omega⟩
    rw [hn] at e
    have hm : ((⟨(c - 101).toNat, by omega⟩ : Fin 20).val : Int) + 101 = c := by show (((c - 101).toNat : Nat) : Int) + 101 = c; omega
    rw [hm] at e
    exact e
  by_cases g6 : c < 141
  · have e := fp_6 ⟨a.toNat, by omega⟩ ⟨(c - 121).toNat, by omega⟩
    rw [hn] at e
    have hm : ((⟨(c - 121).toNat, by omega⟩ : Fin 20).val : Int) + 121 = c := by show (((c - 121).toNat : Nat) : Int) + 121 = c; omega
    rw [hm] at e
    exact e
  by_cases g7 : c < 161
  · have e := fp_7 ⟨a.toNat, by omega⟩ ⟨(c - 141).toNat, by omega⟩
    rw [hn] at e
    have hm : ((⟨(c - 141).toNat, by omega⟩ : Fin 20).val : Int) + 141 = c := by show (((c - 141).toNat : Nat) : Int) + 141 = c; omega
    rw [hm] at e
    exact e
  by_cases g8 : c < 181
  · have e := fp_8 ⟨a.toNat, by omega⟩ ⟨(c - 161).toNat, by omega⟩
    rw [hn] at e
    have hm : ((⟨(c - 161).toNat, by omega⟩ : Fin 20).val : Int) + 161 = c := by show (((c - 161).toNat : Nat) : Int) + 161 = c; omega
    rw [hm] at e
    exact e
  by_cases g9 : c < 201
  · have e := fp_9 ⟨a.toNat, by omega⟩ ⟨(c - 181).toNat, by omega⟩
    rw [hn] at e
    have hm : ((⟨(c - 181).toNat, by omega⟩ : Fin 20).val : Int) + 181 = c := by show (((c - 181).toNat : Nat) : Int) + 181 = c; omega
    rw [hm] at e
    exact e
  omega
