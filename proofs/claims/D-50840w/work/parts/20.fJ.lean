/-! STAGE 1c: functions and contracts (printed by gen/mkfuncs.py). -/
set_option maxRecDepth 100000
set_option linter.unusedVariables false
-- J4_size java/util/ArrayList.size()I
noncomputable def f_J4_size (a0 : Nat) (h : HP) : Option ((Int) × HP) :=
  (rdI h (some a0) [24] 2).bind fun v1 =>
  some (v1, h)
theorem A_J4_size {M : hp_M} {G : va_G} {h0 : HP} (X : hp_X M G h0 "java/util/ArrayList" "size" cJ4_size 1 (some .int) [] 0 0) (a0 : Nat) (h : HP) : vv M G h0 1 (hp_End M G h0) jI h 0 [(0, LR (some a0))] [] (f_J4_size a0 h) := by
  unfold f_J4_size
  refine vv_aload_n (pc := 0) X (kf := 0) (i := 0) rfl 0 rfl dJ4_size_0 ?_
  refine vv_getI (pc := 1) X (fun _ z => by cases List.mem_singleton.mp z; exact fl_J4_48_24) dJ4_size_1 (fun v1 => ?_)
  exact vv_iretI X rfl rfl dJ4_size_4
theorem m_J4_size {l : Launch} (hl : l.stackTraces = false) {G : va_G} (a0 : Nat) (h : HP) : ∀ r hf, f_J4_size a0 h = some (r, hf) → Ct l yJ4_size (ws_ yJ4_size cJ4_size 1 (some .int)) 0 0 G h [.ref a0] (jI r) hf :=
  zz_ofW hl (by decide +kernel) (lv := [(0, LR (some a0))]) (by simp [lv_args, lvL, lvV, zz_rfc, va_cat1, Value.category]) (by simp [lg_sl, zz_rfc, va_cat1, Value.category]) (fun _ X => A_J4_size X a0 h)
