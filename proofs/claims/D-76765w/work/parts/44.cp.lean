/-! System.arraycopy, Math.min, Math.max -/
section JR
variable {M : JM} {K : JK} {l0 : Launch} {cc : ByteArray} {own : String} {nL : Nat} {ret : Option FieldType} {nm : String} {hh : List (Nat × Nat × Nat × Nat)} {lv : Nat} {h0 : JIH} {QR : JQR} {QX : JQX} {h : JIH} {pc : Nat} {ls : List (Option Value)} {st : List Value}
theorem J.copyI {idx a0 a1 n0 n1 sp dp n : Nat} {t : Nat} {ty : FieldType} {f g : Nat → Int32} (X : JX M K l0 cc own nL ret nm hh lv h0 QR QX) (hd : decode cc pc = .ok (.invokestatic idx, 3)) (hl : Cond.methodLink own idx arraycopyName ∈ lw_all) (ha0 : hget h a0 = some (jA K t n0 f)) (ha1 : hget h a1 = some (jA K t n1 g)) (ht : (jtys K)[t]? = some (K.2.1 t, ty)) (hprim : refKind ty = false) (hfit : ∀ i, i < n → fits ty (.int (f (sp + i))) = true) (h4 : sp + n ≤ n0) (h5 : dp + n ≤ n1) (hn0 : n0 < 2147483648) (hn1 : n1 < 2147483648) (hlv : 1 ≤ lv) (k : J M (hset h a1 (jA K t n1 (va_cpy f g sp dp n))) (pc + 3) ls st) (hrst : (st.map fun v => v.category).sum ≤ 8 := by first | exact Nat.le_of_ble_eq_true rfl | (simp [jcat_v]; done)) (hnl : ls.length = nL := by rfl) : J M h pc ls (.int (nI n) :: .int (nI dp) :: .ref a1 :: .int (nI sp) :: .ref a0 :: st) := by
  obtain ⟨K1, h1, R1, X1, p, l, e, R, s, m, args, below, meth, c⟩ := M
  obtain ⟨⟨rfl, rfl, rfl, rfl, rfl⟩, hx, hb, hml, hown, hr, hlk, hts, F, hW, hR, hs0, hb0, hnm, htab⟩ := X
  intro H locs la hH hlo hla hg
  subst hR
  obtain ⟨q0, he0⟩ := hL_of ha0
  obtain ⟨q1, he1⟩ := hL_of ha1
  have c1 : (nI sp).toNatClampNeg = sp := nI_clamp (by omega)
  have c2 : (nI dp).toNatClampNeg = dp := nI_clamp (by omega)
  have c3 : (nI n).toNatClampNeg = n := nI_clamp (by omega)
  refine va_copyi hx hb (by rw [hml, ← hnl]; exact hla.1.symm) hown (hts _ hl) (hts _ q826) (hts _ q825) (hts _ q100) (jK F hW) hH.2.2.1.va (jD h) (jS hg.1 hlo) q0 q1 t t he0 he1 ht ht hprim (nI_pos (by omega)) (nI_pos (by omega)) (nI_pos (by omega)) (by rw [c1, c3]; exact h4) (by rw [c2, c3]; exact h5) (by rw [c3, c1]; exact hfit) hlv (by show _ ≤ 64 * lv; have e9 : nativeFrameWords "java/lang/System" "arraycopy" 5 = 7 := rfl; rw [e9]; omega) hd (fun H1 locs1 hP1 hD1 hS1 => ?_)
  rw [c1, c2, c3] at hP1 hD1
  exact jsize (jcnt hs0 hg) fun hle => jfin k hH he1 hle hP1 hS1 rfl hg hla
theorem J.copyL {idx a0 a1 n0 n1 sp dp n : Nat} {f g : Nat → Int64} (X : JX M K l0 cc own nL ret nm hh lv h0 QR QX) (hd : decode cc pc = .ok (.invokestatic idx, 3)) (hl : Cond.methodLink own idx arraycopyName ∈ lw_all) (ha0 : hget h a0 = some (jAL K n0 f)) (ha1 : hget h a1 = some (jAL K n1 g)) (h4 : sp + n ≤ n0) (h5 : dp + n ≤ n1) (hn0 : n0 < 2147483648) (hn1 : n1 < 2147483648) (hlv : 1 ≤ lv) (k : J M (hset h a1 (jAL K n1 (va_cpy f g sp dp n))) (pc + 3) ls st) (hrst : (st.map fun v => v.category).sum ≤ 8 := by first | exact Nat.le_of_ble_eq_true rfl | (simp [jcat_v]; done)) (hnl : ls.length = nL := by rfl) : J M h pc ls (.int (nI n) :: .int (nI dp) :: .ref a1 :: .int (nI sp) :: .ref a0 :: st) := by
  obtain ⟨K1, h1, R1, X1, p, l, e, R, s, m, args, below, meth, c⟩ := M
  obtain ⟨⟨rfl, rfl, rfl, rfl, rfl⟩, hx, hb, hml, hown, hr, hlk, hts, F, hW, hR, hs0, hb0, hnm, htab⟩ := X
  intro H locs la hH hlo hla hg
  subst hR
  obtain ⟨q0, he0⟩ := hL_of ha0
  obtain ⟨q1, he1⟩ := hL_of ha1
  have c1 : (nI sp).toNatClampNeg = sp := nI_clamp (by omega)
  have c2 : (nI dp).toNatClampNeg = dp := nI_clamp (by omega)
  have c3 : (nI n).toNatClampNeg = n := nI_clamp (by omega)
  refine va_copyl hx hb (by rw [hml, ← hnl]; exact hla.1.symm) hown (hts _ hl) (hts _ q826) (hts _ q825) (hts _ q100) (jK F hW) hH.2.2.1.va (jD h) (jS hg.1 hlo) q0 q1 3 3 he0 he1 rfl rfl rfl (nI_pos (by omega)) (nI_pos (by omega)) (nI_pos (by omega)) (by rw [c1, c3]; exact h4) (by rw [c2, c3]; exact h5) (fun i _ => rfl) hlv (by show _ ≤ 64 * lv; have e9 : nativeFrameWords "java/lang/System" "arraycopy" 5 = 7 := rfl; rw [e9]; omega) hd (fun H1 locs1 hP1 hD1 hS1 => ?_)
  rw [c1, c2, c3] at hP1 hD1
  exact jsize (jcnt hs0 hg) fun hle => jfin k hH he1 hle hP1 hS1 rfl hg hla
theorem J.copyQ {idx a0 a1 n0 n1 sp dp n t0 t1 ci : Nat} {E0 E1 : String} {f g : Nat → Option Nat} {r : vw_C} (X : JX M K l0 cc own nL ret nm hh lv h0 QR QX) (hd : decode cc pc = .ok (.invokestatic idx, 3)) (hl : Cond.methodLink own idx arraycopyName ∈ lw_all) (ha0 : hget h a0 = some (jAR K t0 n0 f)) (ha1 : hget h a1 = some (jAR K t1 n1 g)) (ht0 : (jtys K)[t0]? = some (K.2.1 t0, .object E0)) (ht1 : (jtys K)[t1]? = some (K.2.1 t1, .object E1)) (hc : jcl[ci]? = some r) (hca : r.1 = E1 ∨ Cond.castable r.1 E1 ∈ lw_tbl) (hel : ∀ i, i < n → ∀ y, f (sp + i) = some y → ∃ fs, hget h y = some (jO ci fs)) (h4 : sp + n ≤ n0) (h5 : dp + n ≤ n1) (hn0 : n0 < 2147483648) (hn1 : n1 < 2147483648) (hlv : 1 ≤ lv) (k : J M (hset h a1 (jAR K t1 n1 (va_cpy f g sp dp n))) (pc + 3) ls st) (hrst : (st.map fun v => v.category).sum ≤ 8 := by first | exact Nat.le_of_ble_eq_true rfl | (simp [jcat_v]; done)) (hnl : ls.length = nL := by rfl) : J M h pc ls (.int (nI n) :: .int (nI dp) :: .ref a1 :: .int (nI sp) :: .ref a0 :: st) := by
  obtain ⟨K1, h1, R1, X1, p, l, e, R, s, m, args, below, meth, c⟩ := M
  obtain ⟨⟨rfl, rfl, rfl, rfl, rfl⟩, hx, hb, hml, hown, hr, hlk, hts, F, hW, hR, hs0, hb0, hnm, htab⟩ := X
  intro H locs la hH hlo hla hg
  subst hR
  obtain ⟨q0, he0⟩ := hL_of ha0
  obtain ⟨q1, he1⟩ := hL_of ha1
  have c1 : (nI sp).toNatClampNeg = sp := nI_clamp (by omega)
  have c2 : (nI dp).toNatClampNeg = dp := nI_clamp (by omega)
  have c3 : (nI n).toNatClampNeg = n := nI_clamp (by omega)
  have hasg : ∀ comp c0 : ClassId, s.vm.findClass E1 = some comp → s.vm.findClass r.1 = some c0 → s.vm.assignable c0 comp = true := by
    rcases hca with e | hca
    · subst e
      intro comp c0 z1 z2
      cases z1.symm.trans z2
      exact va_asg _ _
    · intro comp c0 z1 z2
      obtain ⟨c0', t1, f1, f2, f3⟩ := Cond.castable_spec (va_Nw.use (A := args) rfl (jcast F hW hca))
      cases f1.symm.trans z2
      cases f2.symm.trans z1
      exact f3
  refine va_copyq hx hb (by rw [hml, ← hnl]; exact hla.1.symm) hown (hts _ hl) (hts _ q826) (hts _ q825) (hts _ q100) (jK F hW) hH.2.2.1.va (jD h) (jS hg.1 hlo) q0 q1 t0 t1 he0 he1 ht0 ht1 (C := r.1) (nI_pos (by omega)) (nI_pos (by omega)) (nI_pos (by omega)) (by rw [c1, c3]; exact h4) (by rw [c2, c3]; exact h5) (fun i hi y hy => ?_) hasg hlv (by show _ ≤ 64 * lv; have e9 : nativeFrameWords "java/lang/System" "arraycopy" 5 = 7 := rfl; rw [e9]; omega) hd (fun H1 locs1 hP1 hD1 hS1 => ?_)
  · rw [c3] at hi
    rw [c1] at hy
    obtain ⟨fs, hf⟩ := hel i hi y hy
    exact jcell (jK F hW) hH hc hf
  · rw [c1, c2, c3] at hP1 hD1
    exact jsize (jcnt hs0 hg) fun hle => jfin k hH he1 hle hP1 hS1 rfl hg hla
theorem J.mmin {idx : Nat} {x y : Int32} (X : JX M K l0 cc own nL ret nm hh lv h0 QR QX) (hd : decode cc pc = .ok (.invokestatic idx, 3)) (hl : Cond.methodLink own idx Lib.Math.min.name ∈ lw_all) (hlv : 1 ≤ lv) (k : J M h (pc + 3) ls (.int (if y < x then y else x) :: st)) (hrst : (st.map fun v => v.category).sum ≤ 8 := by first | exact Nat.le_of_ble_eq_true rfl | (simp [jcat_v]; done)) (hnl : ls.length = nL := by rfl) : J M h pc ls (.int y :: .int x :: st) := by
  obtain ⟨K1, h1, R1, X1, p, l, e, R, s, m, args, below, meth, c⟩ := M
  obtain ⟨⟨rfl, rfl, rfl, rfl, rfl⟩, hx, hb, hml, hown, hr, hlk, hts, F, hW, hR, hs0, hb0, hnm, htab⟩ := X
  intro H locs la hH hlo hla hg
  subst hR
  have hrm := jroom_k (lv := lv) hg hH.2.2.2.2
  exact va_mmin hx hb (by rw [hml, ← hnl]; exact hla.1.symm) hown (hts _ hl) (hts _ q494) (hts _ q83) (hts _ q495) hlv (by show _ ≤ 64 * lv; omega) (by omega) (by omega) hd (k H locs la hH hlo hla hg)
theorem J.mmax {idx : Nat} {x y : Int32} (X : JX M K l0 cc own nL ret nm hh lv h0 QR QX) (hd : decode cc pc = .ok (.invokestatic idx, 3)) (hl : Cond.methodLink own idx Lib.Math.max.name ∈ lw_all) (hlv : 1 ≤ lv) (k : J M h (pc + 3) ls (.int (if x < y then y else x) :: st)) (hrst : (st.map fun v => v.category).sum ≤ 8 := by first | exact Nat.le_of_ble_eq_true rfl | (simp [jcat_v]; done)) (hnl : ls.length = nL := by rfl) : J M h pc ls (.int y :: .int x :: st) := by
  obtain ⟨K1, h1, R1, X1, p, l, e, R, s, m, args, below, meth, c⟩ := M
  obtain ⟨⟨rfl, rfl, rfl, rfl, rfl⟩, hx, hb, hml, hown, hr, hlk, hts, F, hW, hR, hs0, hb0, hnm, htab⟩ := X
  intro H locs la hH hlo hla hg
  subst hR
  have hrm := jroom_k (lv := lv) hg hH.2.2.2.2
  exact va_mmax hx hb (by rw [hml, ← hnl]; exact hla.1.symm) hown (hts _ hl) (hts _ q806) (hts _ q83) (hts _ q807) hlv (by show _ ≤ 64 * lv; omega) (by omega) (by omega) hd (k H locs la hH hlo hla hg)
end JR
