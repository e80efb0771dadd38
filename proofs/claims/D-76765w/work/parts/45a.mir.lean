/-! the Class object of Object[]: ldc and getClass -/
def jMir (K : JK) (mir : Nat) : Prop := ∃ k, K.2.2.vm.classes[K.2.1 5]? = some k ∧ k.mirror = some mir
theorem jMir.ex {K : JK} (F : JF K) : ∃ mir, jMir K mir := by
  obtain ⟨v0, a0, -, h, -⟩ := F
  rw [Cond.before_and, Bool.and_eq_true] at h
  replace h := h.2
  unfold narrow_1 at h
  rw [Cond.before_and, Bool.and_eq_true] at h
  replace h := h.2
  rw [Cond.before_and, Bool.and_eq_true] at h
  replace h := h.2
  unfold narrow_1_4 at h
  rw [Cond.before_and, Bool.and_eq_true] at h
  replace h := h.1
  rw [Cond.before_and, Bool.and_eq_true] at h
  replace h := h.2
  rw [Cond.before_and, Bool.and_eq_true] at h
  replace h := h.2
  rw [Cond.before_and, Bool.and_eq_true] at h
  replace h := h.1
  rw [Cond.before_and, Bool.and_eq_true] at h
  replace h := h.2
  rw [Cond.before_and, Bool.and_eq_true] at h
  replace h := h.1
  rw [Cond.before_and, Bool.and_eq_true] at h
  replace h := h.2
  rw [Cond.before_and, Bool.and_eq_true] at h
  replace h := h.2
  obtain ⟨v, hv, -⟩ := Cond.isRef_spec h
  obtain ⟨c, k, a, h1, h2, h3, -⟩ := Term.mirror_spec hv
  obtain ⟨_, _, -, -, -, h4⟩ := (v0.2 5 _ rfl).2
  cases Option.some.inj (h1.symm.trans h4)
  exact ⟨a, k, h2, h3⟩
theorem jMir.at {K : JK} {mir : Nat} (hm : jMir K mir) (F : JF K) {U : State} (hW : K.2.2.WarmedH U.vm) : ∃ k, U.vm.findClass "[Ljava/lang/Object;" = some (K.2.1 5) ∧ U.vm.classes[K.2.1 5]? = some k ∧ k.mirror = some mir := by
  obtain ⟨k, h1, h2⟩ := hm
  obtain ⟨k', h3, h4, -⟩ := hW.mirror h1
  obtain ⟨_, _, -, -, -, h5⟩ := ((jK F hW).2 5 _ rfl).2
  exact ⟨k', h5, h3, h4.trans h2⟩
section JR
variable {M : JM} {K : JK} {l0 : Launch} {cc : ByteArray} {own : String} {nL : Nat} {ret : Option FieldType} {nm : String} {hh : List (Nat × Nat × Nat × Nat)} {lv : Nat} {h0 : JIH} {QR : JQR} {QX : JQX} {h : JIH} {pc : Nat} {ls : List (Option Value)} {st : List Value}
theorem J.ldcMir {idx mir : Nat} (X : JX M K l0 cc own nL ret nm hh lv h0 QR QX) (hm : jMir K mir) (hd : decode cc pc = .ok (.ldc idx, 2)) (cl : jCL own idx "[Ljava/lang/Object;") (k : J M h (pc + 2) ls (.ref mir :: st)) : J M h pc ls st := by
  obtain ⟨K1, h1, R1, X1, p, l, e, R, s, m, args, below, meth, c⟩ := M
  obtain ⟨⟨rfl, rfl, rfl, rfl, rfl⟩, hx, hb, hml, hown, hr, hlk, hts, F, hW, hR, hs0, hb0, hnm, htab⟩ := X
  intro H locs la hH hlo hla hg T hT X9
  subst hT
  obtain ⟨kk, m1, m2, m3⟩ := hm.at F hW
  have hev : (Term.mirror "[Ljava/lang/Object;").eval args s none [] s = some (.ref mir) := by
    simp [Term.eval, m1, m2, m3]
  obtain ⟨vm', X', st'⟩ := X9.ldcMirror hx hown (hts _ cl) hev (g := F0 m pc la st) rfl (by rw [hb]; exact hd)
  obtain ⟨t9, a1, b1⟩ := k _ _ la hH hlo hla hg (T.setVm vm') rfl X'
  exact ⟨t9, st' _ a1, b1⟩
theorem J.getClassA {idx mir a n : Nat} {f : Nat → Option Nat} (X : JX M K l0 cc own nL ret nm hh lv h0 QR QX) (hm : jMir K mir) (hd : decode cc pc = .ok (.invokevirtual idx, 3)) (hl : Cond.methodLink own idx Stand.gcN ∈ lw_all) (ha : hget h a = some (jAR K 5 n f)) (hlv : 1 ≤ lv) (k : J M h (pc + 3) ls (.ref mir :: st)) (hrst : (st.map fun v => v.category).sum ≤ 8 := by first | exact Nat.le_of_ble_eq_true rfl | (simp [jcat_v]; done)) (hnl : ls.length = nL := by first | rfl | simp) : J M h pc ls (.ref a :: st) := by
  obtain ⟨K1, h1, R1, X1, p, l, e, R, s, m, args, below, meth, c⟩ := M
  obtain ⟨⟨rfl, rfl, rfl, rfl, rfl⟩, hx, hb, hml, hown, hr, hlk, hts, F, hW, hR, hs0, hb0, hnm, htab⟩ := X
  intro H locs la hH hlo hla hg T hT X9
  subst hR
  subst hT
  obtain ⟨kk, m1, m2, m3⟩ := hm.at F hW
  have hcell := hH.2.2.1 a _ ha
  have hdecl : (Cond.declares Stand.gcN).before args s = true := by
    obtain ⟨-, a0, g0, -⟩ := id F
    exact va_Nw.use rfl (va_Nw.warmD hW (va_Nw.of rfl (g0 _ q3087)))
  obtain ⟨vm', X', st'⟩ := X9.getClassOf hx hown (hts _ hl) hdecl (notFace_of_selects (hts _ q3086)) (hts _ q3086) (hts _ q1043) (hts _ q1086) m1 ⟨_, hcell, rfl, rfl⟩ m2 m3 (g := F0 m pc la (.ref a :: st)) rfl (by rw [hml, ← hnl]; exact hla.1) (rest := st) rfl (by rw [hb]; exact hd) hlv (by
    show 2 * 0 + _ + (nativeFrameWords "java/lang/Object" "getClass" 1 + 11) ≤ 64 * lv
    rw [show nativeFrameWords "java/lang/Object" "getClass" 1 = 3 from by decide]
    omega)
  obtain ⟨t9, a1, b1⟩ := k _ _ la hH hlo hla hg (T.setVm vm') rfl X'
  exact ⟨t9, st' _ a1, b1⟩
end JR
