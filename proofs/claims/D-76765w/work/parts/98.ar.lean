/-! rows: instanceof and checkcast of arrays -/
theorem jarr {K : JK} {h : JIH} {H : Heap} {a t : Nat} {x : vp_A} {ty : FieldType} {nm : String} {U : State} (hK : va_K K.1 jcl (jtys K) U) (hH : jH K h H) (ht : (jtys K)[t]? = some (K.2.1 t, ty)) (hn : va_RA U (K.2.1 t) ty → U.vm.findClass nm = some (K.2.1 t)) (hf : hget h a = some (.inl (K.2.1 t, x))) : ∃ cell : Cell, H[a]? = some cell ∧ cell.vm.isStatics = false ∧ U.vm.findClass nm = some cell.cls := by
  obtain ⟨q0, he⟩ := hL_of hf
  have hvm0 : (vp_cell (K.2.1 t) x).vm = .none := by
    obtain ⟨n, f | f | f | f | f⟩ := x <;> rfl
  have hcl0 : (vp_cell (K.2.1 t) x).cls = K.2.1 t := by
    obtain ⟨n, f | f | f | f | f⟩ := x <;> rfl
  exact ⟨_, hH.2.2.1.va q0 _ he, by show (vp_cell (K.2.1 t) x).vm.isStatics = false; rw [hvm0]; rfl, by show _ = some (vp_cell (K.2.1 t) x).cls; rw [hcl0]; exact hn (hK.2 t _ ht).2⟩
section JR
variable {M : JM} {K : JK} {l0 : Launch} {cc : ByteArray} {own : String} {nL : Nat} {ret : Option FieldType} {nm : String} {hh : List (Nat × Nat × Nat × Nat)} {lv : Nat} {h0 : JIH} {QR : JQR} {QX : JQX} {h : JIH} {pc : Nat} {ls : List (Option Value)} {st : List Value}
theorem J.instAY {idx a t : Nat} {x : vp_A} {ty : FieldType} {nm9 : String} (X : JX M K l0 cc own nL ret nm hh lv h0 QR QX) (hd : decode cc pc = .ok (.instanceof idx, 3)) (cl : jCL own idx nm9) (ht : (jtys K)[t]? = some (K.2.1 t, ty)) (hn : ∀ U, va_RA U (K.2.1 t) ty → U.vm.findClass nm9 = some (K.2.1 t)) (hf : hget h a = some (.inl (K.2.1 t, x))) (k : J M h (pc + 3) ls (.int 1 :: st)) : J M h pc ls (.ref a :: st) := by
  obtain ⟨K1, h1, R1, X1, p, l, e, R, s, m, args, below, meth, c⟩ := M
  obtain ⟨⟨rfl, rfl, rfl, rfl, rfl⟩, hx, hb, hml, hown, hr, hlk, hts, F, hW, hR, hs0, hb0, hnm, htab⟩ := X
  intro H locs la hH hlo hla hg
  exact va_instE hx hb hown (hts _ cl) (jarr (jK F hW) hH ht (hn _) hf) hd (k H locs la hH hlo hla hg)
theorem J.instAN {idx a t : Nat} {x : vp_A} {ty : FieldType} {nm8 nm9 : String} (X : JX M K l0 cc own nL ret nm hh lv h0 QR QX) (hd : decode cc pc = .ok (.instanceof idx, 3)) (cl : jCL own idx nm9) (ht : (jtys K)[t]? = some (K.2.1 t, ty)) (hn : ∀ U, va_RA U (K.2.1 t) ty → U.vm.findClass nm8 = some (K.2.1 t)) (hno : va_Nc nm8 nm9 K.2.2) (hf : hget h a = some (.inl (K.2.1 t, x))) (k : J M h (pc + 3) ls (.int 0 :: st)) : J M h pc ls (.ref a :: st) := by
  obtain ⟨K1, h1, R1, X1, p, l, e, R, s, m, args, below, meth, c⟩ := M
  obtain ⟨⟨rfl, rfl, rfl, rfl, rfl⟩, hx, hb, hml, hown, hr, hlk, hts, F, hW, hR, hs0, hb0, hnm, htab⟩ := X
  intro H locs la hH hlo hla hg
  exact va_instNo hx hb hown (hts _ cl) (hno.moved hW.alike) (jarr (jK F hW) hH ht (hn _) hf) hd (k H locs la hH hlo hla hg)
theorem J.castAY {idx a t : Nat} {x : vp_A} {ty : FieldType} {nm9 : String} (X : JX M K l0 cc own nL ret nm hh lv h0 QR QX) (hd : decode cc pc = .ok (.checkcast idx, 3)) (cl : jCL own idx nm9) (ht : (jtys K)[t]? = some (K.2.1 t, ty)) (hn : ∀ U, va_RA U (K.2.1 t) ty → U.vm.findClass nm9 = some (K.2.1 t)) (hf : hget h a = some (.inl (K.2.1 t, x))) (k : J M h (pc + 3) ls (.ref a :: st)) : J M h pc ls (.ref a :: st) := by
  obtain ⟨K1, h1, R1, X1, p, l, e, R, s, m, args, below, meth, c⟩ := M
  obtain ⟨⟨rfl, rfl, rfl, rfl, rfl⟩, hx, hb, hml, hown, hr, hlk, hts, F, hW, hR, hs0, hb0, hnm, htab⟩ := X
  intro H locs la hH hlo hla hg
  exact va_castE hx hb hown (hts _ cl) (jarr (jK F hW) hH ht (hn _) hf) hd (k H locs la hH hlo hla hg)
end JR
theorem ra_I {c : ClassId} (U : State) (h : va_RA U c .int) : U.vm.findClass "[I" = some c := h
theorem ra_B {c : ClassId} (U : State) (h : va_RA U c .byte) : U.vm.findClass "[B" = some c := h
theorem ra_S {c : ClassId} (U : State) (h : va_RA U c .short) : U.vm.findClass "[S" = some c := h
theorem ra_J {c : ClassId} (U : State) (h : va_RA U c .long) : U.vm.findClass "[J" = some c := h
theorem ra_Z {c : ClassId} (U : State) (h : va_RA U c .boolean) : U.vm.findClass "[Z" = some c := h
