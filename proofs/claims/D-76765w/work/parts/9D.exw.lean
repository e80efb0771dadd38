/-! the words of the machine's own throws -/
theorem ex_n1 {K : JK} {a0 : Array Value} (h : (Jvm.Cond.and given_1 narrow_1).before a0 K.2.2 = true) : (Cond.isRef (.static "java/lang/Throwable" "UNASSIGNED_STACK" "[Ljava/lang/StackTraceElement;")).before a0 K.2.2 = true := by
  rw [Cond.before_and, Bool.and_eq_true] at h
  replace h := h.2
  unfold narrow_1 at h
  rw [Cond.before_and, Bool.and_eq_true] at h
  replace h := h.1
  rw [Cond.before_and, Bool.and_eq_true] at h
  replace h := h.1
  unfold narrow_1_1 at h
  rw [Cond.before_and, Bool.and_eq_true] at h
  replace h := h.1
  rw [Cond.before_and, Bool.and_eq_true] at h
  replace h := h.1
  rw [Cond.before_and, Bool.and_eq_true] at h
  replace h := h.1
  rw [Cond.before_and, Bool.and_eq_true] at h
  replace h := h.1
  rw [Cond.before_and, Bool.and_eq_true] at h
  replace h := h.2
  rw [Cond.before_and, Bool.and_eq_true] at h
  replace h := h.1
  rw [Cond.before_and, Bool.and_eq_true] at h
  replace h := h.1
  rw [Cond.before_and, Bool.and_eq_true] at h
  replace h := h.2
  rw [Cond.before_and, Bool.and_eq_true] at h
  replace h := h.1
  exact h
theorem ex_z1 {K : JK} (F : JF K) {U : State} {h : JIH} (hW : K.2.2.WarmedH U.vm) (hH : jH K h U.heap) : vx_Zq "java/lang/Throwable" "UNASSIGNED_STACK" "[Ljava/lang/StackTraceElement;" (fun q => h.1 ≤ q) U U.heap := jZq F q681 q89 (fun _ => ex_n1) hW hH
theorem ex_u1 {K : JK} (F : JF K) : jAt K [Cond.isRef (.static "java/lang/Throwable" "UNASSIGNED_STACK" "[Ljava/lang/StackTraceElement;")] := jAt.one fun _ _ _ hW hH => vx_isRefq (ex_z1 F hW hH).1
theorem ex_l1 {K : JK} (F : JF K) : jAt K [Cond.laysStatic "java/lang/Throwable" "UNASSIGNED_STACK" "[Ljava/lang/StackTraceElement;"] := jAt.one fun _ _ _ hW hH => (ex_z1 F hW hH).2.word
theorem ex_n2 {K : JK} {a0 : Array Value} (h : (Jvm.Cond.and given_1 narrow_1).before a0 K.2.2 = true) : (Cond.isRef (.static "java/lang/Throwable" "SUPPRESSED_SENTINEL" "Ljava/util/List;")).before a0 K.2.2 = true := by
  rw [Cond.before_and, Bool.and_eq_true] at h
  replace h := h.2
  unfold narrow_1 at h
  rw [Cond.before_and, Bool.and_eq_true] at h
  replace h := h.1
  rw [Cond.before_and, Bool.and_eq_true] at h
  replace h := h.1
  unfold narrow_1_1 at h
  rw [Cond.before_and, Bool.and_eq_true] at h
  replace h := h.1
  rw [Cond.before_and, Bool.and_eq_true] at h
  replace h := h.1
  rw [Cond.before_and, Bool.and_eq_true] at h
  replace h := h.1
  rw [Cond.before_and, Bool.and_eq_true] at h
  replace h := h.1
  rw [Cond.before_and, Bool.and_eq_true] at h
  replace h := h.2
  rw [Cond.before_and, Bool.and_eq_true] at h
  replace h := h.1
  rw [Cond.before_and, Bool.and_eq_true] at h
  replace h := h.1
  rw [Cond.before_and, Bool.and_eq_true] at h
  replace h := h.2
  rw [Cond.before_and, Bool.and_eq_true] at h
  replace h := h.2
  exact h
theorem ex_z2 {K : JK} (F : JF K) {U : State} {h : JIH} (hW : K.2.2.WarmedH U.vm) (hH : jH K h U.heap) : vx_Zq "java/lang/Throwable" "SUPPRESSED_SENTINEL" "Ljava/util/List;" (fun q => h.1 ≤ q) U U.heap := jZq F q683 q89 (fun _ => ex_n2) hW hH
theorem ex_u2 {K : JK} (F : JF K) : jAt K [Cond.isRef (.static "java/lang/Throwable" "SUPPRESSED_SENTINEL" "Ljava/util/List;")] := jAt.one fun _ _ _ hW hH => vx_isRefq (ex_z2 F hW hH).1
theorem ex_l2 {K : JK} (F : JF K) : jAt K [Cond.laysStatic "java/lang/Throwable" "SUPPRESSED_SENTINEL" "Ljava/util/List;"] := jAt.one fun _ _ _ hW hH => (ex_z2 F hW hH).2.word
theorem ex_throwable {K : JK} (F : JF K) : jAt K Bundle.throwableAtoms := jAt.cons (jAt.all F q89) (jAt.cons (jAt.all F q676) (jAt.cons (jAt.all F q685) (jAt.cons (jAt.all F q709) (jAt.cons (jAt.all F q712) (jAt.cons (jAt.all F q714) (jAt.cons (jAt.all F q677) (jAt.cons (jAt.all F q678) (jAt.cons (jAt.all F q138) (jAt.cons (jAt.all F q139) (jAt.cons (jAt.all F q679) (jAt.cons (jAt.all F q684) (jAt.cons (jAt.all F q710) (jAt.cons (jAt.all F q757) (jAt.cons (jAt.all F q666) (jAt.cons (jAt.all F q758) (jAt.cons (jAt.all F q668) (jAt.cons (jAt.all F q759) (jAt.cons (jAt.all F q670) (jAt.cons (jAt.all F q680) (jAt.cons (ex_l1 F) (jAt.cons (jAt.all F q682) (jAt.cons (ex_l2 F) (jAt.cons (jAt.all F q672) (jAt.nil))))))))))))))))))))))))
theorem ex_throwableS {K : JK} (F : JF K) : jAt K Bundle.throwableSAtoms := jAt.cons (jAt.all F q999) (jAt.cons (jAt.all F q1000) (jAt.cons (jAt.all F q756) (jAt.cons (jAt.all F q672) (jAt.nil))))
theorem ex_string {K : JK} (F : JF K) : jAt K Bundle.stringAtoms := jAt.cons (jAt.all F (lw_g (lw_at lw_m1 27 rfl) rfl)) (jAt.cons (jAt.all F (lw_g (lw_at lw_m4 144 rfl) rfl)) (jAt.cons (jAt.all F q419) (jAt.cons (jAt.all F (lw_g (lw_at lw_m4 192 rfl) rfl)) (jAt.cons (jAt.all F (lw_g (lw_at lw_m4 194 rfl) rfl)) (jAt.cons (jAt.all F (lw_g (lw_at lw_m4 193 rfl) rfl)) (jAt.cons (jAt.all F (lw_g (lw_at lw_m4 195 rfl) rfl)) (jAt.nil)))))))
theorem ex_cNeg {K : JK} (F : JF K) : jAt K (Bundle.chainSAtoms "java/lang/NegativeArraySizeException" ["java/lang/RuntimeException", "java/lang/Exception"]) := jAt.cons (jAt.all F q2660) (jAt.cons (jAt.all F q2661) (jAt.cons (jAt.all F q2662) (jAt.cons (jAt.all F q993) (jAt.cons (jAt.decl F q658) (jAt.cons (jAt.all F q993) (jAt.cons (jAt.all F q994) (jAt.cons (jAt.all F q995) (jAt.cons (jAt.all F q996) (jAt.cons (jAt.decl F q660) (jAt.cons (jAt.all F q996) (jAt.cons (jAt.all F q997) (jAt.cons (jAt.all F q998) (jAt.cons (jAt.all F q999) (jAt.cons (jAt.decl F q662) (jAt.nil)))))))))))))))
theorem ex_Neg {K : JK} (F : JF K) : jAt K (Bundle.messageArmAtoms "java/lang/NegativeArraySizeException" ["java/lang/RuntimeException", "java/lang/Exception"]) := ((((ex_throwable F).app (ex_throwableS F)).app (ex_cNeg F)).app (ex_string F)).app (jAt.cons (jAt.all F q97) (jAt.cons (jAt.all F q737) (jAt.cons (jAt.cast F q738) (jAt.cons (jAt.all F q739) (jAt.cons (jAt.all F q692) (jAt.cons (jAt.all F q740) (jAt.cons (jAt.all F q741) (jAt.cons (jAt.all F q742) (jAt.cons (jAt.all F q743) (jAt.cons (ex_u1 F) (jAt.cons (ex_u2 F) (jAt.cons (jAt.all F q755) (jAt.cons (jAt.all F q674) (jAt.cons (jAt.all F q744) (jAt.nil)))))))))))))))
theorem ex_cCce {K : JK} (F : JF K) : jAt K (Bundle.chainSAtoms "java/lang/ClassCastException" ["java/lang/RuntimeException", "java/lang/Exception"]) := jAt.cons (jAt.all F q2582) (jAt.cons (jAt.all F q2583) (jAt.cons (jAt.all F q2584) (jAt.cons (jAt.all F q993) (jAt.cons (jAt.decl F q658) (jAt.cons (jAt.all F q993) (jAt.cons (jAt.all F q994) (jAt.cons (jAt.all F q995) (jAt.cons (jAt.all F q996) (jAt.cons (jAt.decl F q660) (jAt.cons (jAt.all F q996) (jAt.cons (jAt.all F q997) (jAt.cons (jAt.all F q998) (jAt.cons (jAt.all F q999) (jAt.cons (jAt.decl F q662) (jAt.nil)))))))))))))))
theorem ex_Cce {K : JK} (F : JF K) : jAt K (Bundle.messageArmAtoms "java/lang/ClassCastException" ["java/lang/RuntimeException", "java/lang/Exception"]) := ((((ex_throwable F).app (ex_throwableS F)).app (ex_cCce F)).app (ex_string F)).app (jAt.cons (jAt.all F q129) (jAt.cons (jAt.all F q2581) (jAt.cons (jAt.cast F q2592) (jAt.cons (jAt.all F q2593) (jAt.cons (jAt.all F q690) (jAt.cons (jAt.all F q2587) (jAt.cons (jAt.all F q2588) (jAt.cons (jAt.all F q2590) (jAt.cons (jAt.all F q2586) (jAt.cons (ex_u1 F) (jAt.cons (ex_u2 F) (jAt.cons (jAt.all F q755) (jAt.cons (jAt.all F q674) (jAt.cons (jAt.all F q2585) (jAt.nil)))))))))))))))
theorem ex_cAse {K : JK} (F : JF K) : jAt K (Bundle.chainSAtoms "java/lang/ArrayStoreException" ["java/lang/RuntimeException", "java/lang/Exception"]) := jAt.cons (jAt.all F q2703) (jAt.cons (jAt.all F q2704) (jAt.cons (jAt.all F q2705) (jAt.cons (jAt.all F q993) (jAt.cons (jAt.decl F q658) (jAt.cons (jAt.all F q993) (jAt.cons (jAt.all F q994) (jAt.cons (jAt.all F q995) (jAt.cons (jAt.all F q996) (jAt.cons (jAt.decl F q660) (jAt.cons (jAt.all F q996) (jAt.cons (jAt.all F q997) (jAt.cons (jAt.all F q998) (jAt.cons (jAt.all F q999) (jAt.cons (jAt.decl F q662) (jAt.nil)))))))))))))))
theorem ex_Ase {K : JK} (F : JF K) : jAt K (Bundle.messageArmAtoms "java/lang/ArrayStoreException" ["java/lang/RuntimeException", "java/lang/Exception"]) := ((((ex_throwable F).app (ex_throwableS F)).app (ex_cAse F)).app (ex_string F)).app (jAt.cons (jAt.all F q130) (jAt.cons (jAt.all F q2702) (jAt.cons (jAt.cast F q2713) (jAt.cons (jAt.all F q2714) (jAt.cons (jAt.all F q689) (jAt.cons (jAt.all F q2708) (jAt.cons (jAt.all F q2709) (jAt.cons (jAt.all F q2711) (jAt.cons (jAt.all F q2707) (jAt.cons (ex_u1 F) (jAt.cons (ex_u2 F) (jAt.cons (jAt.all F q755) (jAt.cons (jAt.all F q674) (jAt.cons (jAt.all F q2706) (jAt.nil)))))))))))))))
theorem ex_cIoo {K : JK} (F : JF K) : jAt K (Bundle.chainSAtoms "java/lang/ArrayIndexOutOfBoundsException" ["java/lang/IndexOutOfBoundsException", "java/lang/RuntimeException", "java/lang/Exception"]) := jAt.cons (jAt.all F q2717) (jAt.cons (jAt.all F q2718) (jAt.cons (jAt.all F q2719) (jAt.cons (jAt.all F q990) (jAt.cons (jAt.decl F q2729) (jAt.cons (jAt.all F q990) (jAt.cons (jAt.all F q991) (jAt.cons (jAt.all F q992) (jAt.cons (jAt.all F q993) (jAt.cons (jAt.decl F q658) (jAt.cons (jAt.all F q993) (jAt.cons (jAt.all F q994) (jAt.cons (jAt.all F q995) (jAt.cons (jAt.all F q996) (jAt.cons (jAt.decl F q660) (jAt.cons (jAt.all F q996) (jAt.cons (jAt.all F q997) (jAt.cons (jAt.all F q998) (jAt.cons (jAt.all F q999) (jAt.cons (jAt.decl F q662) (jAt.nil))))))))))))))))))))
theorem ex_Ioo {K : JK} (F : JF K) : jAt K (Bundle.messageArmAtoms "java/lang/ArrayIndexOutOfBoundsException" ["java/lang/IndexOutOfBoundsException", "java/lang/RuntimeException", "java/lang/Exception"]) := ((((ex_throwable F).app (ex_throwableS F)).app (ex_cIoo F)).app (ex_string F)).app (jAt.cons (jAt.all F q131) (jAt.cons (jAt.all F q2716) (jAt.cons (jAt.cast F q2727) (jAt.cons (jAt.all F q2730) (jAt.cons (jAt.all F q688) (jAt.cons (jAt.all F q2722) (jAt.cons (jAt.all F q2723) (jAt.cons (jAt.all F q2725) (jAt.cons (jAt.all F q2721) (jAt.cons (ex_u1 F) (jAt.cons (ex_u2 F) (jAt.cons (jAt.all F q755) (jAt.cons (jAt.all F q674) (jAt.cons (jAt.all F q2720) (jAt.nil)))))))))))))))
theorem ex_npe {K : JK} (F : JF K) : jAt K Bundle.npeAtoms := jAt.cons (jAt.all F q704) (jAt.cons (jAt.all F q694) (jAt.cons (jAt.all F q695) (jAt.cons (jAt.all F q1937) (jAt.cons (jAt.all F q1939) (jAt.cons (jAt.all F q701) (jAt.cons (jAt.all F q702) (jAt.cons (jAt.cast F q2603) (jAt.nil))))))))
theorem ex_Npe {K : JK} (F : JF K) : jAt K (Bundle.npeArmAtoms 8) := (((((ex_throwable F).app (ex_npe F)).app (jAt.cons (jAt.all F q1934) (jAt.cons (jAt.all F q1935) (jAt.cons (jAt.all F q1936) (jAt.cons (jAt.all F q749) (jAt.cons (jAt.decl F q657) (jAt.nil))))))).app (jAt.cons (jAt.all F q749) (jAt.cons (jAt.all F q750) (jAt.cons (jAt.all F q751) (jAt.cons (jAt.all F q752) (jAt.cons (jAt.decl F q659) (jAt.nil))))))).app (jAt.cons (jAt.all F q752) (jAt.cons (jAt.all F q753) (jAt.cons (jAt.all F q754) (jAt.cons (jAt.all F q677) (jAt.cons (jAt.decl F q661) (jAt.nil))))))).app (jAt.cons (jAt.all F q116) (jAt.cons (jAt.all F q699) (jAt.cons (jAt.cast F q1926) (jAt.cons (jAt.all F q1927) (jAt.cons (jAt.all F q693) (jAt.cons (jAt.all F q1928) (jAt.cons (jAt.all F q1929) (jAt.cons (jAt.all F q1930) (jAt.cons (ex_u1 F) (jAt.cons (ex_u2 F) (jAt.cons (jAt.all F q755) (jAt.cons (jAt.all F q674) (jAt.cons (jAt.all F q1932) (jAt.nil))))))))))))))
theorem ex_cOff {K : JK} (F : JF K) : jAt K (Bundle.chain0Atoms "java/lang/RuntimeException" ["java/lang/Exception"]) := jAt.cons (jAt.all F q749) (jAt.cons (jAt.all F q750) (jAt.cons (jAt.all F q751) (jAt.cons (jAt.all F q752) (jAt.cons (jAt.decl F q659) (jAt.cons (jAt.all F q752) (jAt.cons (jAt.all F q753) (jAt.cons (jAt.all F q754) (jAt.cons (jAt.all F q677) (jAt.cons (jAt.decl F q661) (jAt.nil))))))))))
theorem nx_AseNpe {K : JK} (F : JF K) : va_Nc "java/lang/ArrayStoreException" "java/lang/NullPointerException" K.2.2 := by
  obtain ⟨-, a0, -, h, -⟩ := F
  rw [Cond.before_and, Bool.and_eq_true] at h
  replace h := h.2
  unfold narrow_1 at h
  rw [Cond.before_and, Bool.and_eq_true] at h
  replace h := h.1
  rw [Cond.before_and, Bool.and_eq_true] at h
  replace h := h.2
  unfold narrow_1_2 at h
  rw [Cond.before_and, Bool.and_eq_true] at h
  replace h := h.1
  rw [Cond.before_and, Bool.and_eq_true] at h
  replace h := h.2
  rw [Cond.before_and, Bool.and_eq_true] at h
  replace h := h.1
  rw [Cond.before_and, Bool.and_eq_true] at h
  replace h := h.1
  rw [Cond.before_and, Bool.and_eq_true] at h
  replace h := h.2
  rw [Cond.before_and, Bool.and_eq_true] at h
  replace h := h.1
  rw [Cond.before_and, Bool.and_eq_true] at h
  replace h := h.1
  rw [Cond.before_and, Bool.and_eq_true] at h
  replace h := h.2
  rw [Cond.before_and, Bool.and_eq_true] at h
  replace h := h.2
  exact va_Nc.of h
theorem nx_IooNpe {K : JK} (F : JF K) : va_Nc "java/lang/ArrayIndexOutOfBoundsException" "java/lang/NullPointerException" K.2.2 := by
  obtain ⟨-, a0, -, h, -⟩ := F
  rw [Cond.before_and, Bool.and_eq_true] at h
  replace h := h.2
  unfold narrow_1 at h
  rw [Cond.before_and, Bool.and_eq_true] at h
  replace h := h.1
  rw [Cond.before_and, Bool.and_eq_true] at h
  replace h := h.2
  unfold narrow_1_2 at h
  rw [Cond.before_and, Bool.and_eq_true] at h
  replace h := h.1
  rw [Cond.before_and, Bool.and_eq_true] at h
  replace h := h.2
  rw [Cond.before_and, Bool.and_eq_true] at h
  replace h := h.1
  rw [Cond.before_and, Bool.and_eq_true] at h
  replace h := h.1
  rw [Cond.before_and, Bool.and_eq_true] at h
  replace h := h.2
  rw [Cond.before_and, Bool.and_eq_true] at h
  replace h := h.1
  rw [Cond.before_and, Bool.and_eq_true] at h
  replace h := h.2
  rw [Cond.before_and, Bool.and_eq_true] at h
  replace h := h.1
  exact va_Nc.of h
theorem nx_IooAse {K : JK} (F : JF K) : va_Nc "java/lang/ArrayIndexOutOfBoundsException" "java/lang/ArrayStoreException" K.2.2 := by
  obtain ⟨-, a0, -, h, -⟩ := F
  rw [Cond.before_and, Bool.and_eq_true] at h
  replace h := h.2
  unfold narrow_1 at h
  rw [Cond.before_and, Bool.and_eq_true] at h
  replace h := h.1
  rw [Cond.before_and, Bool.and_eq_true] at h
  replace h := h.2
  unfold narrow_1_2 at h
  rw [Cond.before_and, Bool.and_eq_true] at h
  replace h := h.1
  rw [Cond.before_and, Bool.and_eq_true] at h
  replace h := h.2
  rw [Cond.before_and, Bool.and_eq_true] at h
  replace h := h.2
  rw [Cond.before_and, Bool.and_eq_true] at h
  replace h := h.2
  rw [Cond.before_and, Bool.and_eq_true] at h
  replace h := h.2
  rw [Cond.before_and, Bool.and_eq_true] at h
  replace h := h.2
  rw [Cond.before_and, Bool.and_eq_true] at h
  replace h := h.1
  rw [Cond.before_and, Bool.and_eq_true] at h
  replace h := h.2
  rw [Cond.before_and, Bool.and_eq_true] at h
  replace h := h.2
  exact va_Nc.of h
theorem nx_OffNpe {K : JK} (F : JF K) : va_Nc "SegmentedCache$Off" "java/lang/NullPointerException" K.2.2 := by
  obtain ⟨-, a0, -, h, -⟩ := F
  rw [Cond.before_and, Bool.and_eq_true] at h
  replace h := h.2
  unfold narrow_1 at h
  rw [Cond.before_and, Bool.and_eq_true] at h
  replace h := h.1
  rw [Cond.before_and, Bool.and_eq_true] at h
  replace h := h.2
  unfold narrow_1_2 at h
  rw [Cond.before_and, Bool.and_eq_true] at h
  replace h := h.1
  rw [Cond.before_and, Bool.and_eq_true] at h
  replace h := h.1
  rw [Cond.before_and, Bool.and_eq_true] at h
  replace h := h.2
  rw [Cond.before_and, Bool.and_eq_true] at h
  replace h := h.2
  rw [Cond.before_and, Bool.and_eq_true] at h
  replace h := h.2
  rw [Cond.before_and, Bool.and_eq_true] at h
  replace h := h.2
  rw [Cond.before_and, Bool.and_eq_true] at h
  replace h := h.2
  rw [Cond.before_and, Bool.and_eq_true] at h
  replace h := h.2
  rw [Cond.before_and, Bool.and_eq_true] at h
  replace h := h.1
  exact va_Nc.of h
