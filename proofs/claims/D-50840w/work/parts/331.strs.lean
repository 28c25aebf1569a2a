/-! STAGE 2A: strings of the JDK: length, charAt. -/
set_option maxRecDepth 100000
/-- a String of n bytes, all below 128 -/
def strAt (h : HP) (a n : Nat) (g : Int → Int) : Prop := ∃ (t v t2 : Nat) (hs hz : Int), h.1 a = some (t, .inl (26, [.inr (.inl (some v)), .inl 0, .inl hs, .inl hz])) ∧ h.1 v = some (t2, .inr (.byte, n, .inl g)) ∧ n ≤ 1000000 ∧ ∀ i : Int, 0 ≤ i → i < n → 0 ≤ g i ∧ g i < 128
theorem iShr_0 {a : Int} (h : inR a) : iShr a 0 = a := by
  unfold iShr
  have e : (iI 0 &&& 31) = 0 := by decide
  rw [e]
  have e2 : iI a >>> (0 : Int32) = iI a := by simp
  rw [e2, iI_toInt h]
theorem iC_lo {c : Int} (h : 0 ≤ c) (h2 : c < 128) : iC (iAnd c 255) = c := by
  have e : ∀ n : Fin 128, iC (iAnd (n.val : Int) 255) = (n.val : Int) := by decide +kernel
  have := e ⟨c.toNat, by omega⟩
  rwa [show ((c.toNat : Nat) : Int) = c by omega] at this
theorem s_length {h : HP} {a n : Nat} {g : Int → Int} (hs : strAt h a n g) : f_J11_length a h = some ((n : Int), h) := by
  obtain ⟨t, v, t2, x, z, h1, h2, h3, h4⟩ := hs
  have r0 : rdR h (some a) [26] 0 = some (some v) := by simp [rdR, rdV, h1]
  have r1 : rdI h (some a) [26] 1 = some 0 := by simp [rdI, rdV, h1]
  have rc : rcv h (some a) [26] = some a := by simp [rcv, clsOf, h1]
  have al : alen h (some v) = some (n : Int) := by simp [alen, arr, h2]
  unfold f_J11_length f_J11_coder b_J11_coder_14
  simp only [r0, al, rc, r1, Option.bind_some]
  rw [iEQ_in (by omega) (by omega), if_neg (by decide), rtB_in (by omega)]
  simp only [hb_some]
  rw [iShr_0 (by omega)]
theorem s_charAt {h : HP} {a n : Nat} {g : Int → Int} {k : Int} (hs : strAt h a n g) (hk : 0 ≤ k) (hk2 : k < n) : f_J11_charAt a k h = some (g k, h) := by
  obtain ⟨t, v, t2, x, z, h1, h2, h3, h4⟩ := hs
  have r0 : rdR h (some a) [26] 0 = some (some v) := by simp [rdR, rdV, h1]
  have r1 : rdI h (some a) [26] 1 = some 0 := by simp [rdI, rdV, h1]
  have rc : rcv h (some a) [26] = some a := by simp [rcv, clsOf, h1]
  have al : alen h (some v) = some (n : Int) := by simp [alen, arr, h2]
  have ld : aldI h .byte (some v) k = some (g k) := by
    have : n ≤ 2147483647 := by omega
    simp [aldI, arr, h2, hk, hk2, this]
  have hg := h4 k hk hk2
  unfold f_J11_charAt f_J11_isLatin1 b_J11_isLatin1_17 b_J11_isLatin1_18
  simp only [rc, r1, Option.bind_some]
  rw [iEQ_in (by omega) (by omega), if_neg (by decide), iEQ_in (by omega) (by omega), if_pos rfl, rtZ_in (Or.inr rfl)]
  simp only [hb_some, i10, r0, Option.bind_some]
  unfold f_J17_charAt f_J11_checkIndex f_J16_checkIndex
  simp only [al, Option.bind_some]
  rw [iLT_in (by omega) (by omega), if_neg (by omega), iLT_in (by omega) (by omega), if_pos hk2]
  simp only [hb_some, ld, Option.bind_some]
  rw [iC_lo hg.1 hg.2, rtC_in (by omega)]
  simp only [hb_some]
  rw [rtC_in (by omega)]
theorem strAt_TH {b : Nat} {t : TS} {h : HP} {a n : Nat} {g : Int → Int} (hs : strAt h a n g) (hb : ∀ q, h.1 q ≠ none → ¬ (b ≤ q ∧ q < b + 19)) : strAt (TH b t h) a n g := by
  obtain ⟨t1, v, t2, x, z, h1, h2, h3, h4⟩ := hs
  refine ⟨t1, v, t2, x, z, ?_, ?_, h3, h4⟩
  · rw [th_out (hb a (by rw [h1]; simp))]; exact h1
  · rw [th_out (hb v (by rw [h2]; simp))]; exact h2
