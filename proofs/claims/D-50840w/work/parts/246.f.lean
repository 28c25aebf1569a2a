/-! STAGE 1c: functions and contracts (printed by gen/mkfuncs.py). -/
set_option maxRecDepth 100000
set_option linter.unusedVariables false
-- law, piece
noncomputable def b_L_law_505 (r23 : Option Nat → Option Nat → Option Nat → Option Nat → Int → HP → Option ((Int) × HP)) (x0 : Option Nat) (x1 : Option Nat) (x2 : Option Nat) (x3 : Option Nat) (x4 : Int) (h : HP) : Option ((Int) × HP) :=
  b_L_law_2553 r23 x0 x1 x2 x3 x4 h
theorem B_L_law_505 {M : hp_M} {G : va_G} {h0 : HP} (X : hp_X M G h0 "RenamedWordsLaw" "law" cL_law 9 (some .boolean) [] 8192 104096) (r23 : Option Nat → Option Nat → Option Nat → Option Nat → Int → HP → Option ((Int) × HP)) (hr23 : ∀ (y0 : Option Nat) (y1 : Option Nat) (y2 : Option Nat) (y3 : Option Nat) (y4 : Int) (h : HP), vv M G h0 9 (hp_End M G h0) jI h 23 [(0, LR y0), (1, LR y1), (2, LR y2), (3, LR y3), (4, LI y4)] [] (r23 y0 y1 y2 y3 y4 h)) (x0 : Option Nat) (x1 : Option Nat) (x2 : Option Nat) (x3 : Option Nat) (x4 : Int) (h : HP) : vv M G h0 9 (hp_End M G h0) jI h 505 [(0, LR x0), (1, LR x1), (2, LR x2), (3, LR x3), (4, LI x4)] [] (b_L_law_505 r23 x0 x1 x2 x3 x4 h) := by
  unfold b_L_law_505
  refine vv_goto (pc := 505) (tgt := 2553) X dL_law_505 rfl ?_
  exact B_L_law_2553 X r23 hr23 _ _ _ _ _ _
-- law, piece
noncomputable def b_L_law_573 (r23 : Option Nat → Option Nat → Option Nat → Option Nat → Int → HP → Option ((Int) × HP)) (x0 : Option Nat) (x1 : Option Nat) (x2 : Option Nat) (x3 : Option Nat) (x4 : Int) (h : HP) : Option ((Int) × HP) :=
  b_L_law_2553 r23 x0 x1 x2 x3 x4 h
theorem B_L_law_573 {M : hp_M} {G : va_G} {h0 : HP} (X : hp_X M G h0 "RenamedWordsLaw" "law" cL_law 9 (some .boolean) [] 8192 104096) (r23 : Option Nat → Option Nat → Option Nat → Option Nat → Int → HP → Option ((Int) × HP)) (hr23 : ∀ (y0 : Option Nat) (y1 : Option Nat) (y2 : Option Nat) (y3 : Option Nat) (y4 : Int) (h : HP), vv M G h0 9 (hp_End M G h0) jI h 23 [(0, LR y0), (1, LR y1), (2, LR y2), (3, LR y3), (4, LI y4)] [] (r23 y0 y1 y2 y3 y4 h)) (x0 : Option Nat) (x1 : Option Nat) (x2 : Option Nat) (x3 : Option Nat) (x4 : Int) (h : HP) : vv M G h0 9 (hp_End M G h0) jI h 573 [(0, LR x0), (1, LR x1), (2, LR x2), (3, LR x3), (4, LI x4)] [] (b_L_law_573 r23 x0 x1 x2 x3 x4 h) := by
  unfold b_L_law_573
  refine vv_goto (pc := 573) (tgt := 2553) X dL_law_573 rfl ?_
  exact B_L_law_2553 X r23 hr23 _ _ _ _ _ _
-- law, piece
noncomputable def b_L_law_641 (r23 : Option Nat → Option Nat → Option Nat → Option Nat → Int → HP → Option ((Int) × HP)) (x0 : Option Nat) (x1 : Option Nat) (x2 : Option Nat) (x3 : Option Nat) (x4 : Int) (h : HP) : Option ((Int) × HP) :=
  b_L_law_2553 r23 x0 x1 x2 x3 x4 h
theorem B_L_law_641 {M : hp_M} {G : va_G} {h0 : HP} (X : hp_X M G h0 "RenamedWordsLaw" "law" cL_law 9 (some .boolean) [] 8192 104096) (r23 : Option Nat → Option Nat → Option Nat → Option Nat → Int → HP → Option ((Int) × HP)) (hr23 : ∀ (y0 : Option Nat) (y1 : Option Nat) (y2 : Option Nat) (y3 : Option Nat) (y4 : Int) (h : HP), vv M G h0 9 (hp_End M G h0) jI h 23 [(0, LR y0), (1, LR y1), (2, LR y2), (3, LR y3), (4, LI y4)] [] (r23 y0 y1 y2 y3 y4 h)) (x0 : Option Nat) (x1 : Option Nat) (x2 : Option Nat) (x3 : Option Nat) (x4 : Int) (h : HP) : vv M G h0 9 (hp_End M G h0) jI h 641 [(0, LR x0), (1, LR x1), (2, LR x2), (3, LR x3), (4, LI x4)] [] (b_L_law_641 r23 x0 x1 x2 x3 x4 h) := by
  unfold b_L_law_641
  refine vv_goto (pc := 641) (tgt := 2553) X dL_law_641 rfl ?_
  exact B_L_law_2553 X r23 hr23 _ _ _ _ _ _
-- law, piece
noncomputable def b_L_law_709 (r23 : Option Nat → Option Nat → Option Nat → Option Nat → Int → HP → Option ((Int) × HP)) (x0 : Option Nat) (x1 : Option Nat) (x2 : Option Nat) (x3 : Option Nat) (x4 : Int) (h : HP) : Option ((Int) × HP) :=
  b_L_law_2553 r23 x0 x1 x2 x3 x4 h
theorem B_L_law_709 {M : hp_M} {G : va_G} {h0 : HP} (X : hp_X M G h0 "RenamedWordsLaw" "law" cL_law 9 (some .boolean) [] 8192 104096) (r23 : Option Nat → Option Nat → Option Nat → Option Nat → Int → HP → Option ((Int) × HP)) (hr23 : ∀ (y0 : Option Nat) (y1 : Option Nat) (y2 : Option Nat) (y3 : Option Nat) (y4 : Int) (h : HP), vv M G h0 9 (hp_End M G h0) jI h 23 [(0, LR y0), (1, LR y1), (2, LR y2), (3, LR y3), (4, LI y4)] [] (r23 y0 y1 y2 y3 y4 h)) (x0 : Option Nat) (x1 : Option Nat) (x2 : Option Nat) (x3 : Option Nat) (x4 : Int) (h : HP) : vv M G h0 9 (hp_End M G h0) jI h 709 [(0, LR x0), (1, LR x1), (2, LR x2), (3, LR x3), (4, LI x4)] [] (b_L_law_709 r23 x0 x1 x2 x3 x4 h) := by
  unfold b_L_law_709
  refine vv_goto (pc := 709) (tgt := 2553) X dL_law_709 rfl ?_
  exact B_L_law_2553 X r23 hr23 _ _ _ _ _ _
-- law, piece
noncomputable def b_L_law_777 (r23 : Option Nat → Option Nat → Option Nat → Option Nat → Int → HP → Option ((Int) × HP)) (x0 : Option Nat) (x1 : Option Nat) (x2 : Option Nat) (x3 : Option Nat) (x4 : Int) (h : HP) : Option ((Int) × HP) :=
  b_L_law_2553 r23 x0 x1 x2 x3 x4 h
theorem B_L_law_777 {M : hp_M} {G : va_G} {h0 : HP} (X : hp_X M G h0 "RenamedWordsLaw" "law" cL_law 9 (some .boolean) [] 8192 104096) (r23 : Option Nat → Option Nat → Option Nat → Option Nat → Int → HP → Option ((Int) × HP)) (hr23 : ∀ (y0 : Option Nat) (y1 : Option Nat) (y2 : Option Nat) (y3 : Option Nat) (y4 : Int) (h : HP), vv M G h0 9 (hp_End M G h0) jI h 23 [(0, LR y0), (1, LR y1), (2, LR y2), (3, LR y3), (4, LI y4)] [] (r23 y0 y1 y2 y3 y4 h)) (x0 : Option Nat) (x1 : Option Nat) (x2 : Option Nat) (x3 : Option Nat) (x4 : Int) (h : HP) : vv M G h0 9 (hp_End M G h0) jI h 777 [(0, LR x0), (1, LR x1), (2, LR x2), (3, LR x3), (4, LI x4)] [] (b_L_law_777 r23 x0 x1 x2 x3 x4 h) := by
  unfold b_L_law_777
  refine vv_goto (pc := 777) (tgt := 2553) X dL_law_777 rfl ?_
  exact B_L_law_2553 X r23 hr23 _ _ _ _ _ _
-- law, piece
noncomputable def b_L_law_845 (r23 : Option Nat → Option Nat → Option Nat → Option Nat → Int → HP → Option ((Int) × HP)) (x0 : Option Nat) (x1 : Option Nat) (x2 : Option Nat) (x3 : Option Nat) (x4 : Int) (h : HP) : Option ((Int) × HP) :=
  b_L_law_2553 r23 x0 x1 x2 x3 x4 h
theorem B_L_law_845 {M : hp_M} {G : va_G} {h0 : HP} (X : hp_X M G h0 "RenamedWordsLaw" "law" cL_law 9 (some .boolean) [] 8192 104096) (r23 : Option Nat → Option Nat → Option Nat → Option Nat → Int → HP → Option ((Int) × HP)) (hr23 : ∀ (y0 : Option Nat) (y1 : Option Nat) (y2 : Option Nat) (y3 : Option Nat) (y4 : Int) (h : HP), vv M G h0 9 (hp_End M G h0) jI h 23 [(0, LR y0), (1, LR y1), (2, LR y2), (3, LR y3), (4, LI y4)] [] (r23 y0 y1 y2 y3 y4 h)) (x0 : Option Nat) (x1 : Option Nat) (x2 : Option Nat) (x3 : Option Nat) (x4 : Int) (h : HP) : vv M G h0 9 (hp_End M G h0) jI h 845 [(0, LR x0), (1, LR x1), (2, LR x2), (3, LR x3), (4, LI x4)] [] (b_L_law_845 r23 x0 x1 x2 x3 x4 h) := by
  unfold b_L_law_845
  refine vv_goto (pc := 845) (tgt := 2553) X dL_law_845 rfl ?_
  exact B_L_law_2553 X r23 hr23 _ _ _ _ _ _
-- law, piece
noncomputable def b_L_law_901 (r23 : Option Nat → Option Nat → Option Nat → Option Nat → Int → HP → Option ((Int) × HP)) (x0 : Option Nat) (x1 : Option Nat) (x2 : Option Nat) (x3 : Option Nat) (x4 : Int) (h : HP) : Option ((Int) × HP) :=
  b_L_law_2553 r23 x0 x1 x2 x3 x4 h
theorem B_L_law_901 {M : hp_M} {G : va_G} {h0 : HP} (X : hp_X M G h0 "RenamedWordsLaw" "law" cL_law 9 (some .boolean) [] 8192 104096) (r23 : Option Nat → Option Nat → Option Nat → Option Nat → Int → HP → Option ((Int) × HP)) (hr23 : ∀ (y0 : Option Nat) (y1 : Option Nat) (y2 : Option Nat) (y3 : Option Nat) (y4 : Int) (h : HP), vv M G h0 9 (hp_End M G h0) jI h 23 [(0, LR y0), (1, LR y1), (2, LR y2), (3, LR y3), (4, LI y4)] [] (r23 y0 y1 y2 y3 y4 h)) (x0 : Option Nat) (x1 : Option Nat) (x2 : Option Nat) (x3 : Option Nat) (x4 : Int) (h : HP) : vv M G h0 9 (hp_End M G h0) jI h 901 [(0, LR x0), (1, LR x1), (2, LR x2), (3, LR x3), (4, LI x4)] [] (b_L_law_901 r23 x0 x1 x2 x3 x4 h) := by
  unfold b_L_law_901
  refine vv_goto (pc := 901) (tgt := 2553) X dL_law_901 rfl ?_
  exact B_L_law_2553 X r23 hr23 _ _ _ _ _ _
-- law, piece
noncomputable def b_L_law_957 (r23 : Option Nat → Option Nat → Option Nat → Option Nat → Int → HP → Option ((Int) × HP)) (x0 : Option Nat) (x1 : Option Nat) (x2 : Option Nat) (x3 : Option Nat) (x4 : Int) (h : HP) : Option ((Int) × HP) :=
  b_L_law_2553 r23 x0 x1 x2 x3 x4 h
theorem B_L_law_957 {M : hp_M} {G : va_G} {h0 : HP} (X : hp_X M G h0 "RenamedWordsLaw" "law" cL_law 9 (some .boolean) [] 8192 104096) (r23 : Option Nat → Option Nat → Option Nat → Option Nat → Int → HP → Option ((Int) × HP)) (hr23 : ∀ (y0 : Option Nat) (y1 : Option Nat) (y2 : Option Nat) (y3 : Option Nat) (y4 : Int) (h : HP), vv M G h0 9 (hp_End M G h0) jI h 23 [(0, LR y0), (1, LR y1), (2, LR y2), (3, LR y3), (4, LI y4)] [] (r23 y0 y1 y2 y3 y4 h)) (x0 : Option Nat) (x1 : Option Nat) (x2 : Option Nat) (x3 : Option Nat) (x4 : Int) (h : HP) : vv M G h0 9 (hp_End M G h0) jI h 957 [(0, LR x0), (1, LR x1), (2, LR x2), (3, LR x3), (4, LI x4)] [] (b_L_law_957 r23 x0 x1 x2 x3 x4 h) := by
  unfold b_L_law_957
  refine vv_goto (pc := 957) (tgt := 2553) X dL_law_957 rfl ?_
  exact B_L_law_2553 X r23 hr23 _ _ _ _ _ _
-- law, piece
noncomputable def b_L_law_1011 (r23 : Option Nat → Option Nat → Option Nat → Option Nat → Int → HP → Option ((Int) × HP)) (x0 : Option Nat) (x1 : Option Nat) (x2 : Option Nat) (x3 : Option Nat) (x4 : Int) (h : HP) : Option ((Int) × HP) :=
  b_L_law_2553 r23 x0 x1 x2 x3 x4 h
theorem B_L_law_1011 {M : hp_M} {G : va_G} {h0 : HP} (X : hp_X M G h0 "RenamedWordsLaw" "law" cL_law 9 (some .boolean) [] 8192 104096) (r23 : Option Nat → Option Nat → Option Nat → Option Nat → Int → HP → Option ((Int) × HP)) (hr23 : ∀ (y0 : Option Nat) (y1 : Option Nat) (y2 : Option Nat) (y3 : Option Nat) (y4 : Int) (h : HP), vv M G h0 9 (hp_End M G h0) jI h 23 [(0, LR y0), (1, LR y1), (2, LR y2), (3, LR y3), (4, LI y4)] [] (r23 y0 y1 y2 y3 y4 h)) (x0 : Option Nat) (x1 : Option Nat) (x2 : Option Nat) (x3 : Option Nat) (x4 : Int) (h : HP) : vv M G h0 9 (hp_End M G h0) jI h 1011 [(0, LR x0), (1, LR x1), (2, LR x2), (3, LR x3), (4, LI x4)] [] (b_L_law_1011 r23 x0 x1 x2 x3 x4 h) := by
  unfold b_L_law_1011
  refine vv_goto (pc := 1011) (tgt := 2553) X dL_law_1011 rfl ?_
  exact B_L_law_2553 X r23 hr23 _ _ _ _ _ _
-- law, piece
noncomputable def b_L_law_1009 (h : HP) : Option ((Int) × HP) :=
  some (0, h)
theorem B_L_law_1009 {M : hp_M} {G : va_G} {h0 : HP} (X : hp_X M G h0 "RenamedWordsLaw" "law" cL_law 9 (some .boolean) [] 8192 104096) (h : HP) : vv M G h0 9 (hp_End M G h0) jI h 1009 [] [] (b_L_law_1009 h) := by
  unfold b_L_law_1009
  refine vv_iconst (pc := 1009) X dL_law_1009 ?_
  exact vv_iret0 X rfl rfl dL_law_1010
-- law, piece
noncomputable def b_L_law_1099 (r23 : Option Nat → Option Nat → Option Nat → Option Nat → Int → HP → Option ((Int) × HP)) (x0 : Option Nat) (x1 : Option Nat) (x2 : Option Nat) (x3 : Option Nat) (x4 : Int) (h : HP) : Option ((Int) × HP) :=
  b_L_law_2553 r23 x0 x1 x2 x3 x4 h
theorem B_L_law_1099 {M : hp_M} {G : va_G} {h0 : HP} (X : hp_X M G h0 "RenamedWordsLaw" "law" cL_law 9 (some .boolean) [] 8192 104096) (r23 : Option Nat → Option Nat → Option Nat → Option Nat → Int → HP → Option ((Int) × HP)) (hr23 : ∀ (y0 : Option Nat) (y1 : Option Nat) (y2 : Option Nat) (y3 : Option Nat) (y4 : Int) (h : HP), vv M G h0 9 (hp_End M G h0) jI h 23 [(0, LR y0), (1, LR y1), (2, LR y2), (3, LR y3), (4, LI y4)] [] (r23 y0 y1 y2 y3 y4 h)) (x0 : Option Nat) (x1 : Option Nat) (x2 : Option Nat) (x3 : Option Nat) (x4 : Int) (h : HP) : vv M G h0 9 (hp_End M G h0) jI h 1099 [(0, LR x0), (1, LR x1), (2, LR x2), (3, LR x3), (4, LI x4)] [] (b_L_law_1099 r23 x0 x1 x2 x3 x4 h) := by
  unfold b_L_law_1099
  refine vv_goto (pc := 1099) (tgt := 2553) X dL_law_1099 rfl ?_
  exact B_L_law_2553 X r23 hr23 _ _ _ _ _ _
-- law, piece
noncomputable def b_L_law_1093 (r23 : Option Nat → Option Nat → Option Nat → Option Nat → Int → HP → Option ((Int) × HP)) (x0 : Option Nat) (x1 : Option Nat) (x2 : Option Nat) (x3 : Option Nat) (x4 : Int) (s0 : Int64) (s1 : Int64) (h : HP) : Option ((Int) × HP) :=
  iEQ (lCmp s1 s0) 0
    (b_L_law_1099 r23 x0 x1 x2 x3 x4 h)
    (some (0, h))
theorem B_L_law_1093 {M : hp_M} {G : va_G} {h0 : HP} (X : hp_X M G h0 "RenamedWordsLaw" "law" cL_law 9 (some .boolean) [] 8192 104096) (r23 : Option Nat → Option Nat → Option Nat → Option Nat → Int → HP → Option ((Int) × HP)) (hr23 : ∀ (y0 : Option Nat) (y1 : Option Nat) (y2 : Option Nat) (y3 : Option Nat) (y4 : Int) (h : HP), vv M G h0 9 (hp_End M G h0) jI h 23 [(0, LR y0), (1, LR y1), (2, LR y2), (3, LR y3), (4, LI y4)] [] (r23 y0 y1 y2 y3 y4 h)) (x0 : Option Nat) (x1 : Option Nat) (x2 : Option Nat) (x3 : Option Nat) (x4 : Int) (s0 : Int64) (s1 : Int64) (h : HP) : vv M G h0 9 (hp_End M G h0) jI h 1093 [(0, LR x0), (1, LR x1), (2, LR x2), (3, LR x3), (4, LI x4)] [LJ s0, LJ s1] (b_L_law_1093 r23 x0 x1 x2 x3 x4 s0 s1 h) := by
  unfold b_L_law_1093
  refine vv_lcmp (pc := 1093) X dL_law_1093 ?_
  refine vv_if_eq (pc := 1094) (tgt := 1099) X dL_law_1094 rfl ?_ ?_
  · exact B_L_law_1099 X r23 hr23 _ _ _ _ _ _
  · refine vv_iconst (pc := 1097) X dL_law_1097 ?_
    exact vv_iret0 X rfl rfl dL_law_1098
-- law, piece
noncomputable def b_L_law_1167 (r23 : Option Nat → Option Nat → Option Nat → Option Nat → Int → HP → Option ((Int) × HP)) (x0 : Option Nat) (x1 : Option Nat) (x2 : Option Nat) (x3 : Option Nat) (x4 : Int) (h : HP) : Option ((Int) × HP) :=
  b_L_law_2553 r23 x0 x1 x2 x3 x4 h
theorem B_L_law_1167 {M : hp_M} {G : va_G} {h0 : HP} (X : hp_X M G h0 "RenamedWordsLaw" "law" cL_law 9 (some .boolean) [] 8192 104096) (r23 : Option Nat → Option Nat → Option Nat → Option Nat → Int → HP → Option ((Int) × HP)) (hr23 : ∀ (y0 : Option Nat) (y1 : Option Nat) (y2 : Option Nat) (y3 : Option Nat) (y4 : Int) (h : HP), vv M G h0 9 (hp_End M G h0) jI h 23 [(0, LR y0), (1, LR y1), (2, LR y2), (3, LR y3), (4, LI y4)] [] (r23 y0 y1 y2 y3 y4 h)) (x0 : Option Nat) (x1 : Option Nat) (x2 : Option Nat) (x3 : Option Nat) (x4 : Int) (h : HP) : vv M G h0 9 (hp_End M G h0) jI h 1167 [(0, LR x0), (1, LR x1), (2, LR x2), (3, LR x3), (4, LI x4)] [] (b_L_law_1167 r23 x0 x1 x2 x3 x4 h) := by
  unfold b_L_law_1167
  refine vv_goto (pc := 1167) (tgt := 2553) X dL_law_1167 rfl ?_
  exact B_L_law_2553 X r23 hr23 _ _ _ _ _ _
-- law, piece
noncomputable def b_L_law_1235 (r23 : Option Nat → Option Nat → Option Nat → Option Nat → Int → HP → Option ((Int) × HP)) (x0 : Option Nat) (x1 : Option Nat) (x2 : Option Nat) (x3 : Option Nat) (x4 : Int) (h : HP) : Option ((Int) × HP) :=
  b_L_law_2553 r23 x0 x1 x2 x3 x4 h
theorem B_L_law_1235 {M : hp_M} {G : va_G} {h0 : HP} (X : hp_X M G h0 "RenamedWordsLaw" "law" cL_law 9 (some .boolean) [] 8192 104096) (r23 : Option Nat → Option Nat → Option Nat → Option Nat → Int → HP → Option ((Int) × HP)) (hr23 : ∀ (y0 : Option Nat) (y1 : Option Nat) (y2 : Option Nat) (y3 : Option Nat) (y4 : Int) (h : HP), vv M G h0 9 (hp_End M G h0) jI h 23 [(0, LR y0), (1, LR y1), (2, LR y2), (3, LR y3), (4, LI y4)] [] (r23 y0 y1 y2 y3 y4 h)) (x0 : Option Nat) (x1 : Option Nat) (x2 : Option Nat) (x3 : Option Nat) (x4 : Int) (h : HP) : vv M G h0 9 (hp_End M G h0) jI h 1235 [(0, LR x0), (1, LR x1), (2, LR x2), (3, LR x3), (4, LI x4)] [] (b_L_law_1235 r23 x0 x1 x2 x3 x4 h) := by
  unfold b_L_law_1235
  refine vv_goto (pc := 1235) (tgt := 2553) X dL_law_1235 rfl ?_
  exact B_L_law_2553 X r23 hr23 _ _ _ _ _ _
-- law, piece
noncomputable def b_L_law_1315 (r23 : Option Nat → Option Nat → Option Nat → Option Nat → Int → HP → Option ((Int) × HP)) (x0 : Option Nat) (x1 : Option Nat) (x2 : Option Nat) (x3 : Option Nat) (x4 : Int) (h : HP) : Option ((Int) × HP) :=
  b_L_law_2553 r23 x0 x1 x2 x3 x4 h
theorem B_L_law_1315 {M : hp_M} {G : va_G} {h0 : HP} (X : hp_X M G h0 "RenamedWordsLaw" "law" cL_law 9 (some .boolean) [] 8192 104096) (r23 : Option Nat → Option Nat → Option Nat → Option Nat → Int → HP → Option ((Int) × HP)) (hr23 : ∀ (y0 : Option Nat) (y1 : Option Nat) (y2 : Option Nat) (y3 : Option Nat) (y4 : Int) (h : HP), vv M G h0 9 (hp_End M G h0) jI h 23 [(0, LR y0), (1, LR y1), (2, LR y2), (3, LR y3), (4, LI y4)] [] (r23 y0 y1 y2 y3 y4 h)) (x0 : Option Nat) (x1 : Option Nat) (x2 : Option Nat) (x3 : Option Nat) (x4 : Int) (h : HP) : vv M G h0 9 (hp_End M G h0) jI h 1315 [(0, LR x0), (1, LR x1), (2, LR x2), (3, LR x3), (4, LI x4)] [] (b_L_law_1315 r23 x0 x1 x2 x3 x4 h) := by
  unfold b_L_law_1315
  refine vv_goto (pc := 1315) (tgt := 2553) X dL_law_1315 rfl ?_
  exact B_L_law_2553 X r23 hr23 _ _ _ _ _ _
-- law, piece
noncomputable def b_L_law_1383 (r23 : Option Nat → Option Nat → Option Nat → Option Nat → Int → HP → Option ((Int) × HP)) (x0 : Option Nat) (x1 : Option Nat) (x2 : Option Nat) (x3 : Option Nat) (x4 : Int) (h : HP) : Option ((Int) × HP) :=
  b_L_law_2553 r23 x0 x1 x2 x3 x4 h
theorem B_L_law_1383 {M : hp_M} {G : va_G} {h0 : HP} (X : hp_X M G h0 "RenamedWordsLaw" "law" cL_law 9 (some .boolean) [] 8192 104096) (r23 : Option Nat → Option Nat → Option Nat → Option Nat → Int → HP → Option ((Int) × HP)) (hr23 : ∀ (y0 : Option Nat) (y1 : Option Nat) (y2 : Option Nat) (y3 : Option Nat) (y4 : Int) (h : HP), vv M G h0 9 (hp_End M G h0) jI h 23 [(0, LR y0), (1, LR y1), (2, LR y2), (3, LR y3), (4, LI y4)] [] (r23 y0 y1 y2 y3 y4 h)) (x0 : Option Nat) (x1 : Option Nat) (x2 : Option Nat) (x3 : Option Nat) (x4 : Int) (h : HP) : vv M G h0 9 (hp_End M G h0) jI h 1383 [(0, LR x0), (1, LR x1), (2, LR x2), (3, LR x3), (4, LI x4)] [] (b_L_law_1383 r23 x0 x1 x2 x3 x4 h) := by
  unfold b_L_law_1383
  refine vv_goto (pc := 1383) (tgt := 2553) X dL_law_1383 rfl ?_
  exact B_L_law_2553 X r23 hr23 _ _ _ _ _ _
-- law, piece
noncomputable def b_L_law_1451 (r23 : Option Nat → Option Nat → Option Nat → Option Nat → Int → HP → Option ((Int) × HP)) (x0 : Option Nat) (x1 : Option Nat) (x2 : Option Nat) (x3 : Option Nat) (x4 : Int) (h : HP) : Option ((Int) × HP) :=
  b_L_law_2553 r23 x0 x1 x2 x3 x4 h
theorem B_L_law_1451 {M : hp_M} {G : va_G} {h0 : HP} (X : hp_X M G h0 "RenamedWordsLaw" "law" cL_law 9 (some .boolean) [] 8192 104096) (r23 : Option Nat → Option Nat → Option Nat → Option Nat → Int → HP → Option ((Int) × HP)) (hr23 : ∀ (y0 : Option Nat) (y1 : Option Nat) (y2 : Option Nat) (y3 : Option Nat) (y4 : Int) (h : HP), vv M G h0 9 (hp_End M G h0) jI h 23 [(0, LR y0), (1, LR y1), (2, LR y2), (3, LR y3), (4, LI y4)] [] (r23 y0 y1 y2 y3 y4 h)) (x0 : Option Nat) (x1 : Option Nat) (x2 : Option Nat) (x3 : Option Nat) (x4 : Int) (h : HP) : vv M G h0 9 (hp_End M G h0) jI h 1451 [(0, LR x0), (1, LR x1), (2, LR x2), (3, LR x3), (4, LI x4)] [] (b_L_law_1451 r23 x0 x1 x2 x3 x4 h) := by
  unfold b_L_law_1451
  refine vv_goto (pc := 1451) (tgt := 2553) X dL_law_1451 rfl ?_
  exact B_L_law_2553 X r23 hr23 _ _ _ _ _ _
-- law, piece
noncomputable def b_L_law_1538 (r23 : Option Nat → Option Nat → Option Nat → Option Nat → Int → HP → Option ((Int) × HP)) (x0 : Option Nat) (x1 : Option Nat) (x2 : Option Nat) (x3 : Option Nat) (x4 : Int) (h : HP) : Option ((Int) × HP) :=
  b_L_law_2553 r23 x0 x1 x2 x3 x4 h
theorem B_L_law_1538 {M : hp_M} {G : va_G} {h0 : HP} (X : hp_X M G h0 "RenamedWordsLaw" "law" cL_law 9 (some .boolean) [] 8192 104096) (r23 : Option Nat → Option Nat → Option Nat → Option Nat → Int → HP → Option ((Int) × HP)) (hr23 : ∀ (y0 : Option Nat) (y1 : Option Nat) (y2 : Option Nat) (y3 : Option Nat) (y4 : Int) (h : HP), vv M G h0 9 (hp_End M G h0) jI h 23 [(0, LR y0), (1, LR y1), (2, LR y2), (3, LR y3), (4, LI y4)] [] (r23 y0 y1 y2 y3 y4 h)) (x0 : Option Nat) (x1 : Option Nat) (x2 : Option Nat) (x3 : Option Nat) (x4 : Int) (h : HP) : vv M G h0 9 (hp_End M G h0) jI h 1538 [(0, LR x0), (1, LR x1), (2, LR x2), (3, LR x3), (4, LI x4)] [] (b_L_law_1538 r23 x0 x1 x2 x3 x4 h) := by
  unfold b_L_law_1538
  refine vv_goto (pc := 1538) (tgt := 2553) X dL_law_1538 rfl ?_
  exact B_L_law_2553 X r23 hr23 _ _ _ _ _ _
-- law, piece
noncomputable def b_L_law_1532 (r23 : Option Nat → Option Nat → Option Nat → Option Nat → Int → HP → Option ((Int) × HP)) (x0 : Option Nat) (x1 : Option Nat) (x2 : Option Nat) (x3 : Option Nat) (x4 : Int) (s0 : Int64) (s1 : Int64) (h : HP) : Option ((Int) × HP) :=
  iEQ (lCmp s1 s0) 0
    (b_L_law_1538 r23 x0 x1 x2 x3 x4 h)
    (some (0, h))
theorem B_L_law_1532 {M : hp_M} {G : va_G} {h0 : HP} (X : hp_X M G h0 "RenamedWordsLaw" "law" cL_law 9 (some .boolean) [] 8192 104096) (r23 : Option Nat → Option Nat → Option Nat → Option Nat → Int → HP → Option ((Int) × HP)) (hr23 : ∀ (y0 : Option Nat) (y1 : Option Nat) (y2 : Option Nat) (y3 : Option Nat) (y4 : Int) (h : HP), vv M G h0 9 (hp_End M G h0) jI h 23 [(0, LR y0), (1, LR y1), (2, LR y2), (3, LR y3), (4, LI y4)] [] (r23 y0 y1 y2 y3 y4 h)) (x0 : Option Nat) (x1 : Option Nat) (x2 : Option Nat) (x3 : Option Nat) (x4 : Int) (s0 : Int64) (s1 : Int64) (h : HP) : vv M G h0 9 (hp_End M G h0) jI h 1532 [(0, LR x0), (1, LR x1), (2, LR x2), (3, LR x3), (4, LI x4)] [LJ s0, LJ s1] (b_L_law_1532 r23 x0 x1 x2 x3 x4 s0 s1 h) := by
  unfold b_L_law_1532
  refine vv_lcmp (pc := 1532) X dL_law_1532 ?_
  refine vv_if_eq (pc := 1533) (tgt := 1538) X dL_law_1533 rfl ?_ ?_
  · exact B_L_law_1538 X r23 hr23 _ _ _ _ _ _
  · refine vv_iconst (pc := 1536) X dL_law_1536 ?_
    exact vv_iret0 X rfl rfl dL_law_1537
-- law, piece
noncomputable def b_L_law_1594 (r23 : Option Nat → Option Nat → Option Nat → Option Nat → Int → HP → Option ((Int) × HP)) (x0 : Option Nat) (x1 : Option Nat) (x2 : Option Nat) (x3 : Option Nat) (x4 : Int) (h : HP) : Option ((Int) × HP) :=
  b_L_law_2553 r23 x0 x1 x2 x3 x4 h
theorem B_L_law_1594 {M : hp_M} {G : va_G} {h0 : HP} (X : hp_X M G h0 "RenamedWordsLaw" "law" cL_law 9 (some .boolean) [] 8192 104096) (r23 : Option Nat → Option Nat → Option Nat → Option Nat → Int → HP → Option ((Int) × HP)) (hr23 : ∀ (y0 : Option Nat) (y1 : Option Nat) (y2 : Option Nat) (y3 : Option Nat) (y4 : Int) (h : HP), vv M G h0 9 (hp_End M G h0) jI h 23 [(0, LR y0), (1, LR y1), (2, LR y2), (3, LR y3), (4, LI y4)] [] (r23 y0 y1 y2 y3 y4 h)) (x0 : Option Nat) (x1 : Option Nat) (x2 : Option Nat) (x3 : Option Nat) (x4 : Int) (h : HP) : vv M G h0 9 (hp_End M G h0) jI h 1594 [(0, LR x0), (1, LR x1), (2, LR x2), (3, LR x3), (4, LI x4)] [] (b_L_law_1594 r23 x0 x1 x2 x3 x4 h) := by
  unfold b_L_law_1594
  refine vv_goto (pc := 1594) (tgt := 2553) X dL_law_1594 rfl ?_
  exact B_L_law_2553 X r23 hr23 _ _ _ _ _ _
-- law, piece
noncomputable def b_L_law_1687 (r23 : Option Nat → Option Nat → Option Nat → Option Nat → Int → HP → Option ((Int) × HP)) (x0 : Option Nat) (x1 : Option Nat) (x2 : Option Nat) (x3 : Option Nat) (x4 : Int) (h : HP) : Option ((Int) × HP) :=
  b_L_law_2553 r23 x0 x1 x2 x3 x4 h
theorem B_L_law_1687 {M : hp_M} {G : va_G} {h0 : HP} (X : hp_X M G h0 "RenamedWordsLaw" "law" cL_law 9 (some .boolean) [] 8192 104096) (r23 : Option Nat → Option Nat → Option Nat → Option Nat → Int → HP → Option ((Int) × HP)) (hr23 : ∀ (y0 : Option Nat) (y1 : Option Nat) (y2 : Option Nat) (y3 : Option Nat) (y4 : Int) (h : HP), vv M G h0 9 (hp_End M G h0) jI h 23 [(0, LR y0), (1, LR y1), (2, LR y2), (3, LR y3), (4, LI y4)] [] (r23 y0 y1 y2 y3 y4 h)) (x0 : Option Nat) (x1 : Option Nat) (x2 : Option Nat) (x3 : Option Nat) (x4 : Int) (h : HP) : vv M G h0 9 (hp_End M G h0) jI h 1687 [(0, LR x0), (1, LR x1), (2, LR x2), (3, LR x3), (4, LI x4)] [] (b_L_law_1687 r23 x0 x1 x2 x3 x4 h) := by
  unfold b_L_law_1687
  refine vv_goto (pc := 1687) (tgt := 2553) X dL_law_1687 rfl ?_
  exact B_L_law_2553 X r23 hr23 _ _ _ _ _ _
-- law, piece
noncomputable def b_L_law_1743 (r23 : Option Nat → Option Nat → Option Nat → Option Nat → Int → HP → Option ((Int) × HP)) (x0 : Option Nat) (x1 : Option Nat) (x2 : Option Nat) (x3 : Option Nat) (x4 : Int) (h : HP) : Option ((Int) × HP) :=
  b_L_law_2553 r23 x0 x1 x2 x3 x4 h
theorem B_L_law_1743 {M : hp_M} {G : va_G} {h0 : HP} (X : hp_X M G h0 "RenamedWordsLaw" "law" cL_law 9 (some .boolean) [] 8192 104096) (r23 : Option Nat → Option Nat → Option Nat → Option Nat → Int → HP → Option ((Int) × HP)) (hr23 : ∀ (y0 : Option Nat) (y1 : Option Nat) (y2 : Option Nat) (y3 : Option Nat) (y4 : Int) (h : HP), vv M G h0 9 (hp_End M G h0) jI h 23 [(0, LR y0), (1, LR y1), (2, LR y2), (3, LR y3), (4, LI y4)] [] (r23 y0 y1 y2 y3 y4 h)) (x0 : Option Nat) (x1 : Option Nat) (x2 : Option Nat) (x3 : Option Nat) (x4 : Int) (h : HP) : vv M G h0 9 (hp_End M G h0) jI h 1743 [(0, LR x0), (1, LR x1), (2, LR x2), (3, LR x3), (4, LI x4)] [] (b_L_law_1743 r23 x0 x1 x2 x3 x4 h) := by
  unfold b_L_law_1743
  refine vv_goto (pc := 1743) (tgt := 2553) X dL_law_1743 rfl ?_
  exact B_L_law_2553 X r23 hr23 _ _ _ _ _ _
-- law, piece
noncomputable def b_L_law_1799 (r23 : Option Nat → Option Nat → Option Nat → Option Nat → Int → HP → Option ((Int) × HP)) (x0 : Option Nat) (x1 : Option Nat) (x2 : Option Nat) (x3 : Option Nat) (x4 : Int) (h : HP) : Option ((Int) × HP) :=
  b_L_law_2553 r23 x0 x1 x2 x3 x4 h
theorem B_L_law_1799 {M : hp_M} {G : va_G} {h0 : HP} (X : hp_X M G h0 "RenamedWordsLaw" "law" cL_law 9 (some .boolean) [] 8192 104096) (r23 : Option Nat → Option Nat → Option Nat → Option Nat → Int → HP → Option ((Int) × HP)) (hr23 : ∀ (y0 : Option Nat) (y1 : Option Nat) (y2 : Option Nat) (y3 : Option Nat) (y4 : Int) (h : HP), vv M G h0 9 (hp_End M G h0) jI h 23 [(0, LR y0), (1, LR y1), (2, LR y2), (3, LR y3), (4, LI y4)] [] (r23 y0 y1 y2 y3 y4 h)) (x0 : Option Nat) (x1 : Option Nat) (x2 : Option Nat) (x3 : Option Nat) (x4 : Int) (h : HP) : vv M G h0 9 (hp_End M G h0) jI h 1799 [(0, LR x0), (1, LR x1), (2, LR x2), (3, LR x3), (4, LI x4)] [] (b_L_law_1799 r23 x0 x1 x2 x3 x4 h) := by
  unfold b_L_law_1799
  refine vv_goto (pc := 1799) (tgt := 2553) X dL_law_1799 rfl ?_
  exact B_L_law_2553 X r23 hr23 _ _ _ _ _ _
-- law, piece
noncomputable def b_L_law_1855 (r23 : Option Nat → Option Nat → Option Nat → Option Nat → Int → HP → Option ((Int) × HP)) (x0 : Option Nat) (x1 : Option Nat) (x2 : Option Nat) (x3 : Option Nat) (x4 : Int) (h : HP) : Option ((Int) × HP) :=
  b_L_law_2553 r23 x0 x1 x2 x3 x4 h
theorem B_L_law_1855 {M : hp_M} {G : va_G} {h0 : HP} (X : hp_X M G h0 "RenamedWordsLaw" "law" cL_law 9 (some .boolean) [] 8192 104096) (r23 : Option Nat → Option Nat → Option Nat → Option Nat → Int → HP → Option ((Int) × HP)) (hr23 : ∀ (y0 : Option Nat) (y1 : Option Nat) (y2 : Option Nat) (y3 : Option Nat) (y4 : Int) (h : HP), vv M G h0 9 (hp_End M G h0) jI h 23 [(0, LR y0), (1, LR y1), (2, LR y2), (3, LR y3), (4, LI y4)] [] (r23 y0 y1 y2 y3 y4 h)) (x0 : Option Nat) (x1 : Option Nat) (x2 : Option Nat) (x3 : Option Nat) (x4 : Int) (h : HP) : vv M G h0 9 (hp_End M G h0) jI h 1855 [(0, LR x0), (1, LR x1), (2, LR x2), (3, LR x3), (4, LI x4)] [] (b_L_law_1855 r23 x0 x1 x2 x3 x4 h) := by
  unfold b_L_law_1855
  refine vv_goto (pc := 1855) (tgt := 2553) X dL_law_1855 rfl ?_
  exact B_L_law_2553 X r23 hr23 _ _ _ _ _ _
-- law, piece
noncomputable def b_L_law_1923 (r23 : Option Nat → Option Nat → Option Nat → Option Nat → Int → HP → Option ((Int) × HP)) (x0 : Option Nat) (x1 : Option Nat) (x2 : Option Nat) (x3 : Option Nat) (x4 : Int) (h : HP) : Option ((Int) × HP) :=
  b_L_law_2553 r23 x0 x1 x2 x3 x4 h
theorem B_L_law_1923 {M : hp_M} {G : va_G} {h0 : HP} (X : hp_X M G h0 "RenamedWordsLaw" "law" cL_law 9 (some .boolean) [] 8192 104096) (r23 : Option Nat → Option Nat → Option Nat → Option Nat → Int → HP → Option ((Int) × HP)) (hr23 : ∀ (y0 : Option Nat) (y1 : Option Nat) (y2 : Option Nat) (y3 : Option Nat) (y4 : Int) (h : HP), vv M G h0 9 (hp_End M G h0) jI h 23 [(0, LR y0), (1, LR y1), (2, LR y2), (3, LR y3), (4, LI y4)] [] (r23 y0 y1 y2 y3 y4 h)) (x0 : Option Nat) (x1 : Option Nat) (x2 : Option Nat) (x3 : Option Nat) (x4 : Int) (h : HP) : vv M G h0 9 (hp_End M G h0) jI h 1923 [(0, LR x0), (1, LR x1), (2, LR x2), (3, LR x3), (4, LI x4)] [] (b_L_law_1923 r23 x0 x1 x2 x3 x4 h) := by
  unfold b_L_law_1923
  refine vv_goto (pc := 1923) (tgt := 2553) X dL_law_1923 rfl ?_
  exact B_L_law_2553 X r23 hr23 _ _ _ _ _ _
-- law, piece
noncomputable def b_L_law_1991 (r23 : Option Nat → Option Nat → Option Nat → Option Nat → Int → HP → Option ((Int) × HP)) (x0 : Option Nat) (x1 : Option Nat) (x2 : Option Nat) (x3 : Option Nat) (x4 : Int) (h : HP) : Option ((Int) × HP) :=
  b_L_law_2553 r23 x0 x1 x2 x3 x4 h
theorem B_L_law_1991 {M : hp_M} {G : va_G} {h0 : HP} (X : hp_X M G h0 "RenamedWordsLaw" "law" cL_law 9 (some .boolean) [] 8192 104096) (r23 : Option Nat → Option Nat → Option Nat → Option Nat → Int → HP → Option ((Int) × HP)) (hr23 : ∀ (y0 : Option Nat) (y1 : Option Nat) (y2 : Option Nat) (y3 : Option Nat) (y4 : Int) (h : HP), vv M G h0 9 (hp_End M G h0) jI h 23 [(0, LR y0), (1, LR y1), (2, LR y2), (3, LR y3), (4, LI y4)] [] (r23 y0 y1 y2 y3 y4 h)) (x0 : Option Nat) (x1 : Option Nat) (x2 : Option Nat) (x3 : Option Nat) (x4 : Int) (h : HP) : vv M G h0 9 (hp_End M G h0) jI h 1991 [(0, LR x0), (1, LR x1), (2, LR x2), (3, LR x3), (4, LI x4)] [] (b_L_law_1991 r23 x0 x1 x2 x3 x4 h) := by
  unfold b_L_law_1991
  refine vv_goto (pc := 1991) (tgt := 2553) X dL_law_1991 rfl ?_
  exact B_L_law_2553 X r23 hr23 _ _ _ _ _ _
-- law, piece
noncomputable def b_L_law_2047 (r23 : Option Nat → Option Nat → Option Nat → Option Nat → Int → HP → Option ((Int) × HP)) (x0 : Option Nat) (x1 : Option Nat) (x2 : Option Nat) (x3 : Option Nat) (x4 : Int) (h : HP) : Option ((Int) × HP) :=
  b_L_law_2553 r23 x0 x1 x2 x3 x4 h
theorem B_L_law_2047 {M : hp_M} {G : va_G} {h0 : HP} (X : hp_X M G h0 "RenamedWordsLaw" "law" cL_law 9 (some .boolean) [] 8192 104096) (r23 : Option Nat → Option Nat → Option Nat → Option Nat → Int → HP → Option ((Int) × HP)) (hr23 : ∀ (y0 : Option Nat) (y1 : Option Nat) (y2 : Option Nat) (y3 : Option Nat) (y4 : Int) (h : HP), vv M G h0 9 (hp_End M G h0) jI h 23 [(0, LR y0), (1, LR y1), (2, LR y2), (3, LR y3), (4, LI y4)] [] (r23 y0 y1 y2 y3 y4 h)) (x0 : Option Nat) (x1 : Option Nat) (x2 : Option Nat) (x3 : Option Nat) (x4 : Int) (h : HP) : vv M G h0 9 (hp_End M G h0) jI h 2047 [(0, LR x0), (1, LR x1), (2, LR x2), (3, LR x3), (4, LI x4)] [] (b_L_law_2047 r23 x0 x1 x2 x3 x4 h) := by
  unfold b_L_law_2047
  refine vv_goto (pc := 2047) (tgt := 2553) X dL_law_2047 rfl ?_
  exact B_L_law_2553 X r23 hr23 _ _ _ _ _ _
-- law, piece
noncomputable def b_L_law_2103 (r23 : Option Nat → Option Nat → Option Nat → Option Nat → Int → HP → Option ((Int) × HP)) (x0 : Option Nat) (x1 : Option Nat) (x2 : Option Nat) (x3 : Option Nat) (x4 : Int) (h : HP) : Option ((Int) × HP) :=
  b_L_law_2553 r23 x0 x1 x2 x3 x4 h
theorem B_L_law_2103 {M : hp_M} {G : va_G} {h0 : HP} (X : hp_X M G h0 "RenamedWordsLaw" "law" cL_law 9 (some .boolean) [] 8192 104096) (r23 : Option Nat → Option Nat → Option Nat → Option Nat → Int → HP → Option ((Int) × HP)) (hr23 : ∀ (y0 : Option Nat) (y1 : Option Nat) (y2 : Option Nat) (y3 : Option Nat) (y4 : Int) (h : HP), vv M G h0 9 (hp_End M G h0) jI h 23 [(0, LR y0), (1, LR y1), (2, LR y2), (3, LR y3), (4, LI y4)] [] (r23 y0 y1 y2 y3 y4 h)) (x0 : Option Nat) (x1 : Option Nat) (x2 : Option Nat) (x3 : Option Nat) (x4 : Int) (h : HP) : vv M G h0 9 (hp_End M G h0) jI h 2103 [(0, LR x0), (1, LR x1), (2, LR x2), (3, LR x3), (4, LI x4)] [] (b_L_law_2103 r23 x0 x1 x2 x3 x4 h) := by
  unfold b_L_law_2103
  refine vv_goto (pc := 2103) (tgt := 2553) X dL_law_2103 rfl ?_
  exact B_L_law_2553 X r23 hr23 _ _ _ _ _ _
-- law, piece
noncomputable def b_L_law_2159 (r23 : Option Nat → Option Nat → Option Nat → Option Nat → Int → HP → Option ((Int) × HP)) (x0 : Option Nat) (x1 : Option Nat) (x2 : Option Nat) (x3 : Option Nat) (x4 : Int) (h : HP) : Option ((Int) × HP) :=
  b_L_law_2553 r23 x0 x1 x2 x3 x4 h
theorem B_L_law_2159 {M : hp_M} {G : va_G} {h0 : HP} (X : hp_X M G h0 "RenamedWordsLaw" "law" cL_law 9 (some .boolean) [] 8192 104096) (r23 : Option Nat → Option Nat → Option Nat → Option Nat → Int → HP → Option ((Int) × HP)) (hr23 : ∀ (y0 : Option Nat) (y1 : Option Nat) (y2 : Option Nat) (y3 : Option Nat) (y4 : Int) (h : HP), vv M G h0 9 (hp_End M G h0) jI h 23 [(0, LR y0), (1, LR y1), (2, LR y2), (3, LR y3), (4, LI y4)] [] (r23 y0 y1 y2 y3 y4 h)) (x0 : Option Nat) (x1 : Option Nat) (x2 : Option Nat) (x3 : Option Nat) (x4 : Int) (h : HP) : vv M G h0 9 (hp_End M G h0) jI h 2159 [(0, LR x0), (1, LR x1), (2, LR x2), (3, LR x3), (4, LI x4)] [] (b_L_law_2159 r23 x0 x1 x2 x3 x4 h) := by
  unfold b_L_law_2159
  refine vv_goto (pc := 2159) (tgt := 2553) X dL_law_2159 rfl ?_
  exact B_L_law_2553 X r23 hr23 _ _ _ _ _ _
-- law, piece
noncomputable def b_L_law_2251 (r23 : Option Nat → Option Nat → Option Nat → Option Nat → Int → HP → Option ((Int) × HP)) (x0 : Option Nat) (x1 : Option Nat) (x2 : Option Nat) (x3 : Option Nat) (x4 : Int) (h : HP) : Option ((Int) × HP) :=
  b_L_law_2553 r23 x0 x1 x2 x3 x4 h
theorem B_L_law_2251 {M : hp_M} {G : va_G} {h0 : HP} (X : hp_X M G h0 "RenamedWordsLaw" "law" cL_law 9 (some .boolean) [] 8192 104096) (r23 : Option Nat → Option Nat → Option Nat → Option Nat → Int → HP → Option ((Int) × HP)) (hr23 : ∀ (y0 : Option Nat) (y1 : Option Nat) (y2 : Option Nat) (y3 : Option Nat) (y4 : Int) (h : HP), vv M G h0 9 (hp_End M G h0) jI h 23 [(0, LR y0), (1, LR y1), (2, LR y2), (3, LR y3), (4, LI y4)] [] (r23 y0 y1 y2 y3 y4 h)) (x0 : Option Nat) (x1 : Option Nat) (x2 : Option Nat) (x3 : Option Nat) (x4 : Int) (h : HP) : vv M G h0 9 (hp_End M G h0) jI h 2251 [(0, LR x0), (1, LR x1), (2, LR x2), (3, LR x3), (4, LI x4)] [] (b_L_law_2251 r23 x0 x1 x2 x3 x4 h) := by
  unfold b_L_law_2251
  refine vv_goto (pc := 2251) (tgt := 2553) X dL_law_2251 rfl ?_
  exact B_L_law_2553 X r23 hr23 _ _ _ _ _ _
-- law, piece
noncomputable def b_L_law_2331 (r23 : Option Nat → Option Nat → Option Nat → Option Nat → Int → HP → Option ((Int) × HP)) (x0 : Option Nat) (x1 : Option Nat) (x2 : Option Nat) (x3 : Option Nat) (x4 : Int) (h : HP) : Option ((Int) × HP) :=
  b_L_law_2553 r23 x0 x1 x2 x3 x4 h
theorem B_L_law_2331 {M : hp_M} {G : va_G} {h0 : HP} (X : hp_X M G h0 "RenamedWordsLaw" "law" cL_law 9 (some .boolean) [] 8192 104096) (r23 : Option Nat → Option Nat → Option Nat → Option Nat → Int → HP → Option ((Int) × HP)) (hr23 : ∀ (y0 : Option Nat) (y1 : Option Nat) (y2 : Option Nat) (y3 : Option Nat) (y4 : Int) (h : HP), vv M G h0 9 (hp_End M G h0) jI h 23 [(0, LR y0), (1, LR y1), (2, LR y2), (3, LR y3), (4, LI y4)] [] (r23 y0 y1 y2 y3 y4 h)) (x0 : Option Nat) (x1 : Option Nat) (x2 : Option Nat) (x3 : Option Nat) (x4 : Int) (h : HP) : vv M G h0 9 (hp_End M G h0) jI h 2331 [(0, LR x0), (1, LR x1), (2, LR x2), (3, LR x3), (4, LI x4)] [] (b_L_law_2331 r23 x0 x1 x2 x3 x4 h) := by
  unfold b_L_law_2331
  refine vv_goto (pc := 2331) (tgt := 2553) X dL_law_2331 rfl ?_
  exact B_L_law_2553 X r23 hr23 _ _ _ _ _ _
-- law, piece
noncomputable def b_L_law_2387 (r23 : Option Nat → Option Nat → Option Nat → Option Nat → Int → HP → Option ((Int) × HP)) (x0 : Option Nat) (x1 : Option Nat) (x2 : Option Nat) (x3 : Option Nat) (x4 : Int) (h : HP) : Option ((Int) × HP) :=
  b_L_law_2553 r23 x0 x1 x2 x3 x4 h
theorem B_L_law_2387 {M : hp_M} {G : va_G} {h0 : HP} (X : hp_X M G h0 "RenamedWordsLaw" "law" cL_law 9 (some .boolean) [] 8192 104096) (r23 : Option Nat → Option Nat → Option Nat → Option Nat → Int → HP → Option ((Int) × HP)) (hr23 : ∀ (y0 : Option Nat) (y1 : Option Nat) (y2 : Option Nat) (y3 : Option Nat) (y4 : Int) (h : HP), vv M G h0 9 (hp_End M G h0) jI h 23 [(0, LR y0), (1, LR y1), (2, LR y2), (3, LR y3), (4, LI y4)] [] (r23 y0 y1 y2 y3 y4 h)) (x0 : Option Nat) (x1 : Option Nat) (x2 : Option Nat) (x3 : Option Nat) (x4 : Int) (h : HP) : vv M G h0 9 (hp_End M G h0) jI h 2387 [(0, LR x0), (1, LR x1), (2, LR x2), (3, LR x3), (4, LI x4)] [] (b_L_law_2387 r23 x0 x1 x2 x3 x4 h) := by
  unfold b_L_law_2387
  refine vv_goto (pc := 2387) (tgt := 2553) X dL_law_2387 rfl ?_
  exact B_L_law_2553 X r23 hr23 _ _ _ _ _ _
-- law, piece
noncomputable def b_L_law_2494 (r23 : Option Nat → Option Nat → Option Nat → Option Nat → Int → HP → Option ((Int) × HP)) (x0 : Option Nat) (x1 : Option Nat) (x2 : Option Nat) (x3 : Option Nat) (x4 : Int) (h : HP) : Option ((Int) × HP) :=
  b_L_law_2553 r23 x0 x1 x2 x3 x4 h
theorem B_L_law_2494 {M : hp_M} {G : va_G} {h0 : HP} (X : hp_X M G h0 "RenamedWordsLaw" "law" cL_law 9 (some .boolean) [] 8192 104096) (r23 : Option Nat → Option Nat → Option Nat → Option Nat → Int → HP → Option ((Int) × HP)) (hr23 : ∀ (y0 : Option Nat) (y1 : Option Nat) (y2 : Option Nat) (y3 : Option Nat) (y4 : Int) (h : HP), vv M G h0 9 (hp_End M G h0) jI h 23 [(0, LR y0), (1, LR y1), (2, LR y2), (3, LR y3), (4, LI y4)] [] (r23 y0 y1 y2 y3 y4 h)) (x0 : Option Nat) (x1 : Option Nat) (x2 : Option Nat) (x3 : Option Nat) (x4 : Int) (h : HP) : vv M G h0 9 (hp_End M G h0) jI h 2494 [(0, LR x0), (1, LR x1), (2, LR x2), (3, LR x3), (4, LI x4)] [] (b_L_law_2494 r23 x0 x1 x2 x3 x4 h) := by
  unfold b_L_law_2494
  refine vv_goto (pc := 2494) (tgt := 2553) X dL_law_2494 rfl ?_
  exact B_L_law_2553 X r23 hr23 _ _ _ _ _ _
-- law, piece
noncomputable def b_L_law_2550 (r23 : Option Nat → Option Nat → Option Nat → Option Nat → Int → HP → Option ((Int) × HP)) (x0 : Option Nat) (x1 : Option Nat) (x2 : Option Nat) (x3 : Option Nat) (x4 : Int) (h : HP) : Option ((Int) × HP) :=
  b_L_law_2553 r23 x0 x1 x2 x3 x4 h
theorem B_L_law_2550 {M : hp_M} {G : va_G} {h0 : HP} (X : hp_X M G h0 "RenamedWordsLaw" "law" cL_law 9 (some .boolean) [] 8192 104096) (r23 : Option Nat → Option Nat → Option Nat → Option Nat → Int → HP → Option ((Int) × HP)) (hr23 : ∀ (y0 : Option Nat) (y1 : Option Nat) (y2 : Option Nat) (y3 : Option Nat) (y4 : Int) (h : HP), vv M G h0 9 (hp_End M G h0) jI h 23 [(0, LR y0), (1, LR y1), (2, LR y2), (3, LR y3), (4, LI y4)] [] (r23 y0 y1 y2 y3 y4 h)) (x0 : Option Nat) (x1 : Option Nat) (x2 : Option Nat) (x3 : Option Nat) (x4 : Int) (h : HP) : vv M G h0 9 (hp_End M G h0) jI h 2550 [(0, LR x0), (1, LR x1), (2, LR x2), (3, LR x3), (4, LI x4)] [] (b_L_law_2550 r23 x0 x1 x2 x3 x4 h) := by
  unfold b_L_law_2550
  refine vv_goto (pc := 2550) (tgt := 2553) X dL_law_2550 rfl ?_
  exact B_L_law_2553 X r23 hr23 _ _ _ _ _ _
