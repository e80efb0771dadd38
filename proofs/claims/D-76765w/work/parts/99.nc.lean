/-! arrays that aren't castable -/
theorem nc_BS {K : JK} (F : JF K) : va_Nc "[B" "[S" K.2.2 := by
  obtain ⟨-, a0, -, h, -⟩ := F
  rw [Cond.before_and, Bool.and_eq_true] at h
  replace h := h.2
  unfold narrow_1 at h
  rw [Cond.before_and, Bool.and_eq_true] at h
  replace h := h.2
  rw [Cond.before_and, Bool.and_eq_true] at h
  replace h := h.1
  unfold narrow_1_3 at h
  rw [Cond.before_and, Bool.and_eq_true] at h
  replace h := h.1
  rw [Cond.before_and, Bool.and_eq_true] at h
  replace h := h.2
  rw [Cond.before_and, Bool.and_eq_true] at h
  replace h := h.2
  rw [Cond.before_and, Bool.and_eq_true] at h
  replace h := h.1
  rw [Cond.before_and, Bool.and_eq_true] at h
  replace h := h.2
  rw [Cond.before_and, Bool.and_eq_true] at h
  replace h := h.2
  rw [Cond.before_and, Bool.and_eq_true] at h
  replace h := h.1
  rw [Cond.before_and, Bool.and_eq_true] at h
  replace h := h.2
  rw [Cond.before_and, Bool.and_eq_true] at h
  replace h := h.1
  exact va_Nc.of h
theorem nc_BI {K : JK} (F : JF K) : va_Nc "[B" "[I" K.2.2 := by
  obtain ⟨-, a0, -, h, -⟩ := F
  rw [Cond.before_and, Bool.and_eq_true] at h
  replace h := h.2
  unfold narrow_1 at h
  rw [Cond.before_and, Bool.and_eq_true] at h
  replace h := h.2
  rw [Cond.before_and, Bool.and_eq_true] at h
  replace h := h.1
  unfold narrow_1_3 at h
  rw [Cond.before_and, Bool.and_eq_true] at h
  replace h := h.2
  rw [Cond.before_and, Bool.and_eq_true] at h
  replace h := h.1
  rw [Cond.before_and, Bool.and_eq_true] at h
  replace h := h.1
  rw [Cond.before_and, Bool.and_eq_true] at h
  replace h := h.1
  rw [Cond.before_and, Bool.and_eq_true] at h
  replace h := h.2
  rw [Cond.before_and, Bool.and_eq_true] at h
  replace h := h.2
  rw [Cond.before_and, Bool.and_eq_true] at h
  replace h := h.2
  rw [Cond.before_and, Bool.and_eq_true] at h
  replace h := h.1
  rw [Cond.before_and, Bool.and_eq_true] at h
  replace h := h.1
  exact va_Nc.of h
theorem nc_BJ {K : JK} (F : JF K) : va_Nc "[B" "[J" K.2.2 := by
  obtain ⟨-, a0, -, h, -⟩ := F
  rw [Cond.before_and, Bool.and_eq_true] at h
  replace h := h.2
  unfold narrow_1 at h
  rw [Cond.before_and, Bool.and_eq_true] at h
  replace h := h.2
  rw [Cond.before_and, Bool.and_eq_true] at h
  replace h := h.1
  unfold narrow_1_3 at h
  rw [Cond.before_and, Bool.and_eq_true] at h
  replace h := h.2
  rw [Cond.before_and, Bool.and_eq_true] at h
  replace h := h.2
  rw [Cond.before_and, Bool.and_eq_true] at h
  replace h := h.1
  rw [Cond.before_and, Bool.and_eq_true] at h
  replace h := h.1
  rw [Cond.before_and, Bool.and_eq_true] at h
  replace h := h.1
  rw [Cond.before_and, Bool.and_eq_true] at h
  replace h := h.1
  rw [Cond.before_and, Bool.and_eq_true] at h
  replace h := h.1
  rw [Cond.before_and, Bool.and_eq_true] at h
  replace h := h.2
  rw [Cond.before_and, Bool.and_eq_true] at h
  replace h := h.1
  exact va_Nc.of h
theorem nc_BZ {K : JK} (F : JF K) : va_Nc "[B" "[Z" K.2.2 := by
  obtain ⟨-, a0, -, h, -⟩ := F
  rw [Cond.before_and, Bool.and_eq_true] at h
  replace h := h.2
  unfold narrow_1 at h
  rw [Cond.before_and, Bool.and_eq_true] at h
  replace h := h.2
  rw [Cond.before_and, Bool.and_eq_true] at h
  replace h := h.1
  unfold narrow_1_3 at h
  rw [Cond.before_and, Bool.and_eq_true] at h
  replace h := h.2
  rw [Cond.before_and, Bool.and_eq_true] at h
  replace h := h.2
  rw [Cond.before_and, Bool.and_eq_true] at h
  replace h := h.2
  rw [Cond.before_and, Bool.and_eq_true] at h
  replace h := h.1
  rw [Cond.before_and, Bool.and_eq_true] at h
  replace h := h.1
  rw [Cond.before_and, Bool.and_eq_true] at h
  replace h := h.1
  rw [Cond.before_and, Bool.and_eq_true] at h
  replace h := h.2
  rw [Cond.before_and, Bool.and_eq_true] at h
  replace h := h.1
  exact va_Nc.of h
theorem nc_SB {K : JK} (F : JF K) : va_Nc "[S" "[B" K.2.2 := by
  obtain ⟨-, a0, -, h, -⟩ := F
  rw [Cond.before_and, Bool.and_eq_true] at h
  replace h := h.2
  unfold narrow_1 at h
  rw [Cond.before_and, Bool.and_eq_true] at h
  replace h := h.2
  rw [Cond.before_and, Bool.and_eq_true] at h
  replace h := h.1
  unfold narrow_1_3 at h
  rw [Cond.before_and, Bool.and_eq_true] at h
  replace h := h.1
  rw [Cond.before_and, Bool.and_eq_true] at h
  replace h := h.1
  rw [Cond.before_and, Bool.and_eq_true] at h
  replace h := h.1
  rw [Cond.before_and, Bool.and_eq_true] at h
  replace h := h.2
  rw [Cond.before_and, Bool.and_eq_true] at h
  replace h := h.2
  rw [Cond.before_and, Bool.and_eq_true] at h
  replace h := h.1
  rw [Cond.before_and, Bool.and_eq_true] at h
  replace h := h.2
  rw [Cond.before_and, Bool.and_eq_true] at h
  replace h := h.2
  rw [Cond.before_and, Bool.and_eq_true] at h
  replace h := h.2
  exact va_Nc.of h
theorem nc_SI {K : JK} (F : JF K) : va_Nc "[S" "[I" K.2.2 := by
  obtain ⟨-, a0, -, h, -⟩ := F
  rw [Cond.before_and, Bool.and_eq_true] at h
  replace h := h.2
  unfold narrow_1 at h
  rw [Cond.before_and, Bool.and_eq_true] at h
  replace h := h.2
  rw [Cond.before_and, Bool.and_eq_true] at h
  replace h := h.1
  unfold narrow_1_3 at h
  rw [Cond.before_and, Bool.and_eq_true] at h
  replace h := h.2
  rw [Cond.before_and, Bool.and_eq_true] at h
  replace h := h.1
  rw [Cond.before_and, Bool.and_eq_true] at h
  replace h := h.1
  rw [Cond.before_and, Bool.and_eq_true] at h
  replace h := h.2
  rw [Cond.before_and, Bool.and_eq_true] at h
  replace h := h.1
  rw [Cond.before_and, Bool.and_eq_true] at h
  replace h := h.1
  rw [Cond.before_and, Bool.and_eq_true] at h
  replace h := h.1
  rw [Cond.before_and, Bool.and_eq_true] at h
  replace h := h.2
  rw [Cond.before_and, Bool.and_eq_true] at h
  replace h := h.1
  exact va_Nc.of h
theorem nc_SJ {K : JK} (F : JF K) : va_Nc "[S" "[J" K.2.2 := by
  obtain ⟨-, a0, -, h, -⟩ := F
  rw [Cond.before_and, Bool.and_eq_true] at h
  replace h := h.2
  unfold narrow_1 at h
  rw [Cond.before_and, Bool.and_eq_true] at h
  replace h := h.2
  rw [Cond.before_and, Bool.and_eq_true] at h
  replace h := h.1
  unfold narrow_1_3 at h
  rw [Cond.before_and, Bool.and_eq_true] at h
  replace h := h.2
  rw [Cond.before_and, Bool.and_eq_true] at h
  replace h := h.2
  rw [Cond.before_and, Bool.and_eq_true] at h
  replace h := h.1
  rw [Cond.before_and, Bool.and_eq_true] at h
  replace h := h.1
  rw [Cond.before_and, Bool.and_eq_true] at h
  replace h := h.1
  rw [Cond.before_and, Bool.and_eq_true] at h
  replace h := h.2
  rw [Cond.before_and, Bool.and_eq_true] at h
  replace h := h.1
  rw [Cond.before_and, Bool.and_eq_true] at h
  replace h := h.1
  exact va_Nc.of h
theorem nc_SZ {K : JK} (F : JF K) : va_Nc "[S" "[Z" K.2.2 := by
  obtain ⟨-, a0, -, h, -⟩ := F
  rw [Cond.before_and, Bool.and_eq_true] at h
  replace h := h.2
  unfold narrow_1 at h
  rw [Cond.before_and, Bool.and_eq_true] at h
  replace h := h.2
  rw [Cond.before_and, Bool.and_eq_true] at h
  replace h := h.1
  unfold narrow_1_3 at h
  rw [Cond.before_and, Bool.and_eq_true] at h
  replace h := h.2
  rw [Cond.before_and, Bool.and_eq_true] at h
  replace h := h.2
  rw [Cond.before_and, Bool.and_eq_true] at h
  replace h := h.2
  rw [Cond.before_and, Bool.and_eq_true] at h
  replace h := h.1
  rw [Cond.before_and, Bool.and_eq_true] at h
  replace h := h.1
  rw [Cond.before_and, Bool.and_eq_true] at h
  replace h := h.2
  rw [Cond.before_and, Bool.and_eq_true] at h
  replace h := h.1
  rw [Cond.before_and, Bool.and_eq_true] at h
  replace h := h.2
  rw [Cond.before_and, Bool.and_eq_true] at h
  replace h := h.2
  exact va_Nc.of h
theorem nc_IB {K : JK} (F : JF K) : va_Nc "[I" "[B" K.2.2 := by
  obtain ⟨-, a0, -, h, -⟩ := F
  rw [Cond.before_and, Bool.and_eq_true] at h
  replace h := h.2
  unfold narrow_1 at h
  rw [Cond.before_and, Bool.and_eq_true] at h
  replace h := h.2
  rw [Cond.before_and, Bool.and_eq_true] at h
  replace h := h.1
  unfold narrow_1_3 at h
  rw [Cond.before_and, Bool.and_eq_true] at h
  replace h := h.1
  rw [Cond.before_and, Bool.and_eq_true] at h
  replace h := h.1
  rw [Cond.before_and, Bool.and_eq_true] at h
  replace h := h.1
  rw [Cond.before_and, Bool.and_eq_true] at h
  replace h := h.2
  rw [Cond.before_and, Bool.and_eq_true] at h
  replace h := h.1
  rw [Cond.before_and, Bool.and_eq_true] at h
  replace h := h.2
  rw [Cond.before_and, Bool.and_eq_true] at h
  replace h := h.2
  rw [Cond.before_and, Bool.and_eq_true] at h
  replace h := h.2
  rw [Cond.before_and, Bool.and_eq_true] at h
  replace h := h.2
  exact va_Nc.of h
theorem nc_IS {K : JK} (F : JF K) : va_Nc "[I" "[S" K.2.2 := by
  obtain ⟨-, a0, -, h, -⟩ := F
  rw [Cond.before_and, Bool.and_eq_true] at h
  replace h := h.2
  unfold narrow_1 at h
  rw [Cond.before_and, Bool.and_eq_true] at h
  replace h := h.2
  rw [Cond.before_and, Bool.and_eq_true] at h
  replace h := h.1
  unfold narrow_1_3 at h
  rw [Cond.before_and, Bool.and_eq_true] at h
  replace h := h.1
  rw [Cond.before_and, Bool.and_eq_true] at h
  replace h := h.2
  rw [Cond.before_and, Bool.and_eq_true] at h
  replace h := h.2
  rw [Cond.before_and, Bool.and_eq_true] at h
  replace h := h.1
  rw [Cond.before_and, Bool.and_eq_true] at h
  replace h := h.2
  rw [Cond.before_and, Bool.and_eq_true] at h
  replace h := h.1
  rw [Cond.before_and, Bool.and_eq_true] at h
  replace h := h.2
  rw [Cond.before_and, Bool.and_eq_true] at h
  replace h := h.2
  rw [Cond.before_and, Bool.and_eq_true] at h
  replace h := h.2
  exact va_Nc.of h
theorem nc_IJ {K : JK} (F : JF K) : va_Nc "[I" "[J" K.2.2 := by
  obtain ⟨-, a0, -, h, -⟩ := F
  rw [Cond.before_and, Bool.and_eq_true] at h
  replace h := h.2
  unfold narrow_1 at h
  rw [Cond.before_and, Bool.and_eq_true] at h
  replace h := h.2
  rw [Cond.before_and, Bool.and_eq_true] at h
  replace h := h.1
  unfold narrow_1_3 at h
  rw [Cond.before_and, Bool.and_eq_true] at h
  replace h := h.2
  rw [Cond.before_and, Bool.and_eq_true] at h
  replace h := h.1
  rw [Cond.before_and, Bool.and_eq_true] at h
  replace h := h.2
  rw [Cond.before_and, Bool.and_eq_true] at h
  replace h := h.2
  rw [Cond.before_and, Bool.and_eq_true] at h
  replace h := h.2
  rw [Cond.before_and, Bool.and_eq_true] at h
  replace h := h.2
  rw [Cond.before_and, Bool.and_eq_true] at h
  replace h := h.2
  rw [Cond.before_and, Bool.and_eq_true] at h
  replace h := h.2
  rw [Cond.before_and, Bool.and_eq_true] at h
  replace h := h.2
  exact va_Nc.of h
theorem nc_IZ {K : JK} (F : JF K) : va_Nc "[I" "[Z" K.2.2 := by
  obtain ⟨-, a0, -, h, -⟩ := F
  rw [Cond.before_and, Bool.and_eq_true] at h
  replace h := h.2
  unfold narrow_1 at h
  rw [Cond.before_and, Bool.and_eq_true] at h
  replace h := h.2
  rw [Cond.before_and, Bool.and_eq_true] at h
  replace h := h.1
  unfold narrow_1_3 at h
  rw [Cond.before_and, Bool.and_eq_true] at h
  replace h := h.2
  rw [Cond.before_and, Bool.and_eq_true] at h
  replace h := h.2
  rw [Cond.before_and, Bool.and_eq_true] at h
  replace h := h.2
  rw [Cond.before_and, Bool.and_eq_true] at h
  replace h := h.1
  rw [Cond.before_and, Bool.and_eq_true] at h
  replace h := h.1
  rw [Cond.before_and, Bool.and_eq_true] at h
  replace h := h.1
  rw [Cond.before_and, Bool.and_eq_true] at h
  replace h := h.1
  rw [Cond.before_and, Bool.and_eq_true] at h
  replace h := h.2
  rw [Cond.before_and, Bool.and_eq_true] at h
  replace h := h.2
  exact va_Nc.of h
theorem nc_JB {K : JK} (F : JF K) : va_Nc "[J" "[B" K.2.2 := by
  obtain ⟨-, a0, -, h, -⟩ := F
  rw [Cond.before_and, Bool.and_eq_true] at h
  replace h := h.2
  unfold narrow_1 at h
  rw [Cond.before_and, Bool.and_eq_true] at h
  replace h := h.2
  rw [Cond.before_and, Bool.and_eq_true] at h
  replace h := h.1
  unfold narrow_1_3 at h
  rw [Cond.before_and, Bool.and_eq_true] at h
  replace h := h.1
  rw [Cond.before_and, Bool.and_eq_true] at h
  replace h := h.1
  rw [Cond.before_and, Bool.and_eq_true] at h
  replace h := h.1
  rw [Cond.before_and, Bool.and_eq_true] at h
  replace h := h.2
  rw [Cond.before_and, Bool.and_eq_true] at h
  replace h := h.2
  rw [Cond.before_and, Bool.and_eq_true] at h
  replace h := h.2
  rw [Cond.before_and, Bool.and_eq_true] at h
  replace h := h.1
  rw [Cond.before_and, Bool.and_eq_true] at h
  replace h := h.1
  exact va_Nc.of h
theorem nc_JS {K : JK} (F : JF K) : va_Nc "[J" "[S" K.2.2 := by
  obtain ⟨-, a0, -, h, -⟩ := F
  rw [Cond.before_and, Bool.and_eq_true] at h
  replace h := h.2
  unfold narrow_1 at h
  rw [Cond.before_and, Bool.and_eq_true] at h
  replace h := h.2
  rw [Cond.before_and, Bool.and_eq_true] at h
  replace h := h.1
  unfold narrow_1_3 at h
  rw [Cond.before_and, Bool.and_eq_true] at h
  replace h := h.1
  rw [Cond.before_and, Bool.and_eq_true] at h
  replace h := h.2
  rw [Cond.before_and, Bool.and_eq_true] at h
  replace h := h.2
  rw [Cond.before_and, Bool.and_eq_true] at h
  replace h := h.1
  rw [Cond.before_and, Bool.and_eq_true] at h
  replace h := h.2
  rw [Cond.before_and, Bool.and_eq_true] at h
  replace h := h.2
  rw [Cond.before_and, Bool.and_eq_true] at h
  replace h := h.2
  rw [Cond.before_and, Bool.and_eq_true] at h
  replace h := h.2
  rw [Cond.before_and, Bool.and_eq_true] at h
  replace h := h.2
  exact va_Nc.of h
theorem nc_JI {K : JK} (F : JF K) : va_Nc "[J" "[I" K.2.2 := by
  obtain ⟨-, a0, -, h, -⟩ := F
  rw [Cond.before_and, Bool.and_eq_true] at h
  replace h := h.2
  unfold narrow_1 at h
  rw [Cond.before_and, Bool.and_eq_true] at h
  replace h := h.2
  rw [Cond.before_and, Bool.and_eq_true] at h
  replace h := h.1
  unfold narrow_1_3 at h
  rw [Cond.before_and, Bool.and_eq_true] at h
  replace h := h.2
  rw [Cond.before_and, Bool.and_eq_true] at h
  replace h := h.1
  rw [Cond.before_and, Bool.and_eq_true] at h
  replace h := h.1
  rw [Cond.before_and, Bool.and_eq_true] at h
  replace h := h.2
  rw [Cond.before_and, Bool.and_eq_true] at h
  replace h := h.1
  rw [Cond.before_and, Bool.and_eq_true] at h
  replace h := h.1
  rw [Cond.before_and, Bool.and_eq_true] at h
  replace h := h.1
  rw [Cond.before_and, Bool.and_eq_true] at h
  replace h := h.2
  rw [Cond.before_and, Bool.and_eq_true] at h
  replace h := h.2
  exact va_Nc.of h
theorem nc_JZ {K : JK} (F : JF K) : va_Nc "[J" "[Z" K.2.2 := by
  obtain ⟨-, a0, -, h, -⟩ := F
  rw [Cond.before_and, Bool.and_eq_true] at h
  replace h := h.2
  unfold narrow_1 at h
  rw [Cond.before_and, Bool.and_eq_true] at h
  replace h := h.2
  rw [Cond.before_and, Bool.and_eq_true] at h
  replace h := h.1
  unfold narrow_1_3 at h
  rw [Cond.before_and, Bool.and_eq_true] at h
  replace h := h.2
  rw [Cond.before_and, Bool.and_eq_true] at h
  replace h := h.2
  rw [Cond.before_and, Bool.and_eq_true] at h
  replace h := h.2
  rw [Cond.before_and, Bool.and_eq_true] at h
  replace h := h.1
  rw [Cond.before_and, Bool.and_eq_true] at h
  replace h := h.1
  rw [Cond.before_and, Bool.and_eq_true] at h
  replace h := h.2
  rw [Cond.before_and, Bool.and_eq_true] at h
  replace h := h.2
  rw [Cond.before_and, Bool.and_eq_true] at h
  replace h := h.1
  exact va_Nc.of h
theorem nc_ZB {K : JK} (F : JF K) : va_Nc "[Z" "[B" K.2.2 := by
  obtain ⟨-, a0, -, h, -⟩ := F
  rw [Cond.before_and, Bool.and_eq_true] at h
  replace h := h.2
  unfold narrow_1 at h
  rw [Cond.before_and, Bool.and_eq_true] at h
  replace h := h.2
  rw [Cond.before_and, Bool.and_eq_true] at h
  replace h := h.1
  unfold narrow_1_3 at h
  rw [Cond.before_and, Bool.and_eq_true] at h
  replace h := h.1
  rw [Cond.before_and, Bool.and_eq_true] at h
  replace h := h.1
  rw [Cond.before_and, Bool.and_eq_true] at h
  replace h := h.1
  rw [Cond.before_and, Bool.and_eq_true] at h
  replace h := h.2
  rw [Cond.before_and, Bool.and_eq_true] at h
  replace h := h.2
  rw [Cond.before_and, Bool.and_eq_true] at h
  replace h := h.1
  rw [Cond.before_and, Bool.and_eq_true] at h
  replace h := h.1
  rw [Cond.before_and, Bool.and_eq_true] at h
  replace h := h.1
  exact va_Nc.of h
theorem nc_ZS {K : JK} (F : JF K) : va_Nc "[Z" "[S" K.2.2 := by
  obtain ⟨-, a0, -, h, -⟩ := F
  rw [Cond.before_and, Bool.and_eq_true] at h
  replace h := h.2
  unfold narrow_1 at h
  rw [Cond.before_and, Bool.and_eq_true] at h
  replace h := h.2
  rw [Cond.before_and, Bool.and_eq_true] at h
  replace h := h.1
  unfold narrow_1_3 at h
  rw [Cond.before_and, Bool.and_eq_true] at h
  replace h := h.1
  rw [Cond.before_and, Bool.and_eq_true] at h
  replace h := h.2
  rw [Cond.before_and, Bool.and_eq_true] at h
  replace h := h.2
  rw [Cond.before_and, Bool.and_eq_true] at h
  replace h := h.1
  rw [Cond.before_and, Bool.and_eq_true] at h
  replace h := h.2
  rw [Cond.before_and, Bool.and_eq_true] at h
  replace h := h.2
  rw [Cond.before_and, Bool.and_eq_true] at h
  replace h := h.1
  rw [Cond.before_and, Bool.and_eq_true] at h
  replace h := h.1
  exact va_Nc.of h
theorem nc_ZI {K : JK} (F : JF K) : va_Nc "[Z" "[I" K.2.2 := by
  obtain ⟨-, a0, -, h, -⟩ := F
  rw [Cond.before_and, Bool.and_eq_true] at h
  replace h := h.2
  unfold narrow_1 at h
  rw [Cond.before_and, Bool.and_eq_true] at h
  replace h := h.2
  rw [Cond.before_and, Bool.and_eq_true] at h
  replace h := h.1
  unfold narrow_1_3 at h
  rw [Cond.before_and, Bool.and_eq_true] at h
  replace h := h.2
  rw [Cond.before_and, Bool.and_eq_true] at h
  replace h := h.1
  rw [Cond.before_and, Bool.and_eq_true] at h
  replace h := h.1
  rw [Cond.before_and, Bool.and_eq_true] at h
  replace h := h.1
  rw [Cond.before_and, Bool.and_eq_true] at h
  replace h := h.2
  rw [Cond.before_and, Bool.and_eq_true] at h
  replace h := h.2
  rw [Cond.before_and, Bool.and_eq_true] at h
  replace h := h.1
  rw [Cond.before_and, Bool.and_eq_true] at h
  replace h := h.2
  rw [Cond.before_and, Bool.and_eq_true] at h
  replace h := h.2
  exact va_Nc.of h
theorem nc_ZJ {K : JK} (F : JF K) : va_Nc "[Z" "[J" K.2.2 := by
  obtain ⟨-, a0, -, h, -⟩ := F
  rw [Cond.before_and, Bool.and_eq_true] at h
  replace h := h.2
  unfold narrow_1 at h
  rw [Cond.before_and, Bool.and_eq_true] at h
  replace h := h.2
  rw [Cond.before_and, Bool.and_eq_true] at h
  replace h := h.1
  unfold narrow_1_3 at h
  rw [Cond.before_and, Bool.and_eq_true] at h
  replace h := h.2
  rw [Cond.before_and, Bool.and_eq_true] at h
  replace h := h.2
  rw [Cond.before_and, Bool.and_eq_true] at h
  replace h := h.1
  rw [Cond.before_and, Bool.and_eq_true] at h
  replace h := h.1
  rw [Cond.before_and, Bool.and_eq_true] at h
  replace h := h.1
  rw [Cond.before_and, Bool.and_eq_true] at h
  replace h := h.1
  rw [Cond.before_and, Bool.and_eq_true] at h
  replace h := h.1
  rw [Cond.before_and, Bool.and_eq_true] at h
  replace h := h.1
  exact va_Nc.of h
