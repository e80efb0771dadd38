/-! the static table BOUNDS -/
theorem bd_arr {K : JK} {a0 : Array Value} (h : (Jvm.Cond.and given_1 narrow_1).before a0 K.2.2 = true) : (Jvm.Cond.arrayOf (Jvm.Term.static "SegmentedCache" "BOUNDS" "[I") Jvm.ClassFile.FieldType.int).before a0 K.2.2 = true := by
  rw [Cond.before_and, Bool.and_eq_true] at h
  replace h := h.2
  unfold narrow_1 at h
  rw [Cond.before_and, Bool.and_eq_true] at h
  replace h := h.1
  rw [Cond.before_and, Bool.and_eq_true] at h
  replace h := h.1
  unfold narrow_1_1 at h
  rw [Cond.before_and, Bool.and_eq_true] at h
  replace h := h.1
  rw [Cond.before_and, Bool.and_eq_true] at h
  replace h := h.1
  rw [Cond.before_and, Bool.and_eq_true] at h
  replace h := h.1
  rw [Cond.before_and, Bool.and_eq_true] at h
  replace h := h.1
  rw [Cond.before_and, Bool.and_eq_true] at h
  replace h := h.1
  rw [Cond.before_and, Bool.and_eq_true] at h
  replace h := h.1
  rw [Cond.before_and, Bool.and_eq_true] at h
  replace h := h.2
  rw [Cond.before_and, Bool.and_eq_true] at h
  replace h := h.1
  exact h
theorem bd_len {K : JK} {a0 : Array Value} (h : (Jvm.Cond.and given_1 narrow_1).before a0 K.2.2 = true) : (Jvm.Cond.eq (Jvm.Term.length (Jvm.Term.static "SegmentedCache" "BOUNDS" "[I")) (Jvm.Term.int (8 : Int32))).before a0 K.2.2 = true := by
  rw [Cond.before_and, Bool.and_eq_true] at h
  replace h := h.2
  unfold narrow_1 at h
  rw [Cond.before_and, Bool.and_eq_true] at h
  replace h := h.1
  rw [Cond.before_and, Bool.and_eq_true] at h
  replace h := h.1
  unfold narrow_1_1 at h
  rw [Cond.before_and, Bool.and_eq_true] at h
  replace h := h.1
  rw [Cond.before_and, Bool.and_eq_true] at h
  replace h := h.1
  rw [Cond.before_and, Bool.and_eq_true] at h
  replace h := h.1
  rw [Cond.before_and, Bool.and_eq_true] at h
  replace h := h.1
  rw [Cond.before_and, Bool.and_eq_true] at h
  replace h := h.1
  rw [Cond.before_and, Bool.and_eq_true] at h
  replace h := h.1
  rw [Cond.before_and, Bool.and_eq_true] at h
  replace h := h.2
  rw [Cond.before_and, Bool.and_eq_true] at h
  replace h := h.2
  rw [Cond.before_and, Bool.and_eq_true] at h
  replace h := h.1
  exact h
theorem bd_0 {K : JK} {a0 : Array Value} (h : (Jvm.Cond.and given_1 narrow_1).before a0 K.2.2 = true) : (Jvm.Cond.eq (Jvm.Term.elem (Jvm.Term.static "SegmentedCache" "BOUNDS" "[I") (Jvm.Term.int (0 : Int32))) (Jvm.Term.int (1 : Int32))).before a0 K.2.2 = true := by
  rw [Cond.before_and, Bool.and_eq_true] at h
  replace h := h.2
  unfold narrow_1 at h
  rw [Cond.before_and, Bool.and_eq_true] at h
  replace h := h.1
  rw [Cond.before_and, Bool.and_eq_true] at h
  replace h := h.1
  unfold narrow_1_1 at h
  rw [Cond.before_and, Bool.and_eq_true] at h
  replace h := h.1
  rw [Cond.before_and, Bool.and_eq_true] at h
  replace h := h.1
  rw [Cond.before_and, Bool.and_eq_true] at h
  replace h := h.1
  rw [Cond.before_and, Bool.and_eq_true] at h
  replace h := h.1
  rw [Cond.before_and, Bool.and_eq_true] at h
  replace h := h.1
  rw [Cond.before_and, Bool.and_eq_true] at h
  replace h := h.1
  rw [Cond.before_and, Bool.and_eq_true] at h
  replace h := h.2
  rw [Cond.before_and, Bool.and_eq_true] at h
  replace h := h.2
  rw [Cond.before_and, Bool.and_eq_true] at h
  replace h := h.2
  exact h
theorem bd_1 {K : JK} {a0 : Array Value} (h : (Jvm.Cond.and given_1 narrow_1).before a0 K.2.2 = true) : (Jvm.Cond.eq (Jvm.Term.elem (Jvm.Term.static "SegmentedCache" "BOUNDS" "[I") (Jvm.Term.int (1 : Int32))) (Jvm.Term.int (99 : Int32))).before a0 K.2.2 = true := by
  rw [Cond.before_and, Bool.and_eq_true] at h
  replace h := h.2
  unfold narrow_1 at h
  rw [Cond.before_and, Bool.and_eq_true] at h
  replace h := h.1
  rw [Cond.before_and, Bool.and_eq_true] at h
  replace h := h.1
  unfold narrow_1_1 at h
  rw [Cond.before_and, Bool.and_eq_true] at h
  replace h := h.1
  rw [Cond.before_and, Bool.and_eq_true] at h
  replace h := h.1
  rw [Cond.before_and, Bool.and_eq_true] at h
  replace h := h.1
  rw [Cond.before_and, Bool.and_eq_true] at h
  replace h := h.1
  rw [Cond.before_and, Bool.and_eq_true] at h
  replace h := h.1
  rw [Cond.before_and, Bool.and_eq_true] at h
  replace h := h.2
  rw [Cond.before_and, Bool.and_eq_true] at h
  replace h := h.1
  rw [Cond.before_and, Bool.and_eq_true] at h
  replace h := h.1
  exact h
theorem bd_2 {K : JK} {a0 : Array Value} (h : (Jvm.Cond.and given_1 narrow_1).before a0 K.2.2 = true) : (Jvm.Cond.eq (Jvm.Term.elem (Jvm.Term.static "SegmentedCache" "BOUNDS" "[I") (Jvm.Term.int (2 : Int32))) (Jvm.Term.int (0 : Int32))).before a0 K.2.2 = true := by
  rw [Cond.before_and, Bool.and_eq_true] at h
  replace h := h.2
  unfold narrow_1 at h
  rw [Cond.before_and, Bool.and_eq_true] at h
  replace h := h.1
  rw [Cond.before_and, Bool.and_eq_true] at h
  replace h := h.1
  unfold narrow_1_1 at h
  rw [Cond.before_and, Bool.and_eq_true] at h
  replace h := h.1
  rw [Cond.before_and, Bool.and_eq_true] at h
  replace h := h.1
  rw [Cond.before_and, Bool.and_eq_true] at h
  replace h := h.1
  rw [Cond.before_and, Bool.and_eq_true] at h
  replace h := h.1
  rw [Cond.before_and, Bool.and_eq_true] at h
  replace h := h.1
  rw [Cond.before_and, Bool.and_eq_true] at h
  replace h := h.2
  rw [Cond.before_and, Bool.and_eq_true] at h
  replace h := h.1
  rw [Cond.before_and, Bool.and_eq_true] at h
  replace h := h.2
  rw [Cond.before_and, Bool.and_eq_true] at h
  replace h := h.1
  exact h
theorem bd_3 {K : JK} {a0 : Array Value} (h : (Jvm.Cond.and given_1 narrow_1).before a0 K.2.2 = true) : (Jvm.Cond.eq (Jvm.Term.elem (Jvm.Term.static "SegmentedCache" "BOUNDS" "[I") (Jvm.Term.int (3 : Int32))) (Jvm.Term.int (99 : Int32))).before a0 K.2.2 = true := by
  rw [Cond.before_and, Bool.and_eq_true] at h
  replace h := h.2
  unfold narrow_1 at h
  rw [Cond.before_and, Bool.and_eq_true] at h
  replace h := h.1
  rw [Cond.before_and, Bool.and_eq_true] at h
  replace h := h.1
  unfold narrow_1_1 at h
  rw [Cond.before_and, Bool.and_eq_true] at h
  replace h := h.1
  rw [Cond.before_and, Bool.and_eq_true] at h
  replace h := h.1
  rw [Cond.before_and, Bool.and_eq_true] at h
  replace h := h.1
  rw [Cond.before_and, Bool.and_eq_true] at h
  replace h := h.1
  rw [Cond.before_and, Bool.and_eq_true] at h
  replace h := h.1
  rw [Cond.before_and, Bool.and_eq_true] at h
  replace h := h.2
  rw [Cond.before_and, Bool.and_eq_true] at h
  replace h := h.1
  rw [Cond.before_and, Bool.and_eq_true] at h
  replace h := h.2
  rw [Cond.before_and, Bool.and_eq_true] at h
  replace h := h.2
  exact h
theorem bd_4 {K : JK} {a0 : Array Value} (h : (Jvm.Cond.and given_1 narrow_1).before a0 K.2.2 = true) : (Jvm.Cond.eq (Jvm.Term.elem (Jvm.Term.static "SegmentedCache" "BOUNDS" "[I") (Jvm.Term.int (4 : Int32))) (Jvm.Term.int (1 : Int32))).before a0 K.2.2 = true := by
  rw [Cond.before_and, Bool.and_eq_true] at h
  replace h := h.2
  unfold narrow_1 at h
  rw [Cond.before_and, Bool.and_eq_true] at h
  replace h := h.1
  rw [Cond.before_and, Bool.and_eq_true] at h
  replace h := h.1
  unfold narrow_1_1 at h
  rw [Cond.before_and, Bool.and_eq_true] at h
  replace h := h.1
  rw [Cond.before_and, Bool.and_eq_true] at h
  replace h := h.1
  rw [Cond.before_and, Bool.and_eq_true] at h
  replace h := h.1
  rw [Cond.before_and, Bool.and_eq_true] at h
  replace h := h.1
  rw [Cond.before_and, Bool.and_eq_true] at h
  replace h := h.1
  rw [Cond.before_and, Bool.and_eq_true] at h
  replace h := h.2
  rw [Cond.before_and, Bool.and_eq_true] at h
  replace h := h.2
  rw [Cond.before_and, Bool.and_eq_true] at h
  replace h := h.1
  exact h
theorem bd_5 {K : JK} {a0 : Array Value} (h : (Jvm.Cond.and given_1 narrow_1).before a0 K.2.2 = true) : (Jvm.Cond.eq (Jvm.Term.elem (Jvm.Term.static "SegmentedCache" "BOUNDS" "[I") (Jvm.Term.int (5 : Int32))) (Jvm.Term.int (9 : Int32))).before a0 K.2.2 = true := by
  rw [Cond.before_and, Bool.and_eq_true] at h
  replace h := h.2
  unfold narrow_1 at h
  rw [Cond.before_and, Bool.and_eq_true] at h
  replace h := h.1
  rw [Cond.before_and, Bool.and_eq_true] at h
  replace h := h.1
  unfold narrow_1_1 at h
  rw [Cond.before_and, Bool.and_eq_true] at h
  replace h := h.1
  rw [Cond.before_and, Bool.and_eq_true] at h
  replace h := h.1
  rw [Cond.before_and, Bool.and_eq_true] at h
  replace h := h.1
  rw [Cond.before_and, Bool.and_eq_true] at h
  replace h := h.1
  rw [Cond.before_and, Bool.and_eq_true] at h
  replace h := h.1
  rw [Cond.before_and, Bool.and_eq_true] at h
  replace h := h.2
  rw [Cond.before_and, Bool.and_eq_true] at h
  replace h := h.2
  rw [Cond.before_and, Bool.and_eq_true] at h
  replace h := h.2
  rw [Cond.before_and, Bool.and_eq_true] at h
  replace h := h.1
  exact h
theorem bd_6 {K : JK} {a0 : Array Value} (h : (Jvm.Cond.and given_1 narrow_1).before a0 K.2.2 = true) : (Jvm.Cond.eq (Jvm.Term.elem (Jvm.Term.static "SegmentedCache" "BOUNDS" "[I") (Jvm.Term.int (6 : Int32))) (Jvm.Term.int (0 : Int32))).before a0 K.2.2 = true := by
  rw [Cond.before_and, Bool.and_eq_true] at h
  replace h := h.2
  unfold narrow_1 at h
  rw [Cond.before_and, Bool.and_eq_true] at h
  replace h := h.1
  rw [Cond.before_and, Bool.and_eq_true] at h
  replace h := h.1
  unfold narrow_1_1 at h
  rw [Cond.before_and, Bool.and_eq_true] at h
  replace h := h.1
  rw [Cond.before_and, Bool.and_eq_true] at h
  replace h := h.1
  rw [Cond.before_and, Bool.and_eq_true] at h
  replace h := h.1
  rw [Cond.before_and, Bool.and_eq_true] at h
  replace h := h.1
  rw [Cond.before_and, Bool.and_eq_true] at h
  replace h := h.1
  rw [Cond.before_and, Bool.and_eq_true] at h
  replace h := h.2
  rw [Cond.before_and, Bool.and_eq_true] at h
  replace h := h.2
  rw [Cond.before_and, Bool.and_eq_true] at h
  replace h := h.2
  rw [Cond.before_and, Bool.and_eq_true] at h
  replace h := h.2
  exact h
theorem bd_7 {K : JK} {a0 : Array Value} (h : (Jvm.Cond.and given_1 narrow_1).before a0 K.2.2 = true) : (Jvm.Cond.eq (Jvm.Term.elem (Jvm.Term.static "SegmentedCache" "BOUNDS" "[I") (Jvm.Term.int (7 : Int32))) (Jvm.Term.int (9 : Int32))).before a0 K.2.2 = true := by
  rw [Cond.before_and, Bool.and_eq_true] at h
  replace h := h.2
  unfold narrow_1 at h
  rw [Cond.before_and, Bool.and_eq_true] at h
  replace h := h.1
  rw [Cond.before_and, Bool.and_eq_true] at h
  replace h := h.1
  unfold narrow_1_1 at h
  rw [Cond.before_and, Bool.and_eq_true] at h
  replace h := h.1
  rw [Cond.before_and, Bool.and_eq_true] at h
  replace h := h.1
  rw [Cond.before_and, Bool.and_eq_true] at h
  replace h := h.1
  rw [Cond.before_and, Bool.and_eq_true] at h
  replace h := h.1
  rw [Cond.before_and, Bool.and_eq_true] at h
  replace h := h.2
  rw [Cond.before_and, Bool.and_eq_true] at h
  replace h := h.1
  rw [Cond.before_and, Bool.and_eq_true] at h
  replace h := h.1
  rw [Cond.before_and, Bool.and_eq_true] at h
  replace h := h.1
  exact h
def bdN (j : Nat) : Nat := if j = 0 then 1 else if j = 1 then 99 else if j = 2 then 0 else if j = 3 then 99 else if j = 4 then 1 else if j = 5 then 9 else if j = 6 then 0 else 9
theorem jbounds {K : JK} (F : JF K) : ∃ t, va_Z "SegmentedCache" "BOUNDS" "[I" (.ref t) (fun _ => False) K.2.2 K.2.2.heap ∧ va_T .int t 8 (fun j => .int (nI (bdN j))) (fun _ => False) K.2.2 K.2.2.heap := by
  obtain ⟨-, a0, hw, h, -⟩ := F
  have hel : ∀ j : Nat, j < 8 → (Term.elem (Jvm.Term.static "SegmentedCache" "BOUNDS" "[I") (.int (Int32.ofNat j))).eval a0 K.2.2 none [] K.2.2 = some (.int (nI (bdN j))) := fun j hj => by
    rcases (show j = 0 ∨ j = 1 ∨ j = 2 ∨ j = 3 ∨ j = 4 ∨ j = 5 ∨ j = 6 ∨ j = 7 by omega) with rfl | rfl | rfl | rfl | rfl | rfl | rfl | rfl
    · exact va_eqt (bd_0 h)
    · exact va_eqt (bd_1 h)
    · exact va_eqt (bd_2 h)
    · exact va_eqt (bd_3 h)
    · exact va_eqt (bd_4 h)
    · exact va_eqt (bd_5 h)
    · exact va_eqt (bd_6 h)
    · exact va_eqt (bd_7 h)
  obtain ⟨t, ht, T⟩ := va_Tof (A := fun _ => False) (f := fun j => .int (nI (bdN j))) (by decide) (bd_arr h) (va_eqt (bd_len h)) hel (fun _ _ z => z)
  exact ⟨t, va_Zof (hw _ q488) (hw _ (lw_all_tbl q69)) ht (fun _ _ z => z), T⟩
