/-! rows: a static table is read -/
section JR
variable {M : JM} {K : JK} {l0 : Launch} {cc : ByteArray} {own : String} {nL : Nat} {ret : Option FieldType} {nm : String} {hh : List (Nat × Nat × Nat × Nat)} {lv : Nat} {h0 : JIH} {QR : JQR} {QX : JQX} {h : JIH} {pc : Nat} {ls : List (Option Value)} {st : List Value}
theorem J.gets {idx : Nat} {C n d : String} {v : Value} (X : JX M K l0 cc own nL ret nm hh lv h0 QR QX) (hd : decode cc pc = .ok (.getstatic idx, 3)) (hl : Cond.fieldLink own idx C n d ∈ lw_all) (hZ : va_Z C n d v (fun _ => False) K.2.2 K.2.2.heap) (k : J M h (pc + 3) ls (v :: st)) : J M h pc ls st := by
  obtain ⟨K1, h1, R1, X1, p, l, e, R, s, m, args, below, meth, c⟩ := M
  obtain ⟨⟨rfl, rfl, rfl, rfl, rfl⟩, hx, hb, hml, hown, hr, hlk, hts, F, hW, hR, hs0, hb0, hnm, htab⟩ := X
  intro H locs la hH hlo hla hg
  obtain ⟨cf, kf, fi, f, a, cell, h1, h2, h3, h4, h5, h6, h7, h8⟩ := va_Z.moved hW.alike hZ
  exact W.gets hx hb hown (hts _ hl) h1 h2 h3 h4 (by rw [hH.2.2.2.1 a (by rw [hH.1]; exact (Array.getElem?_eq_some_iff.mp h5).1)]; exact h5) (fun e => by rw [e] at h6; cases h6) h7 rfl hd (k H locs la hH hlo hla hg)
theorem J.tald {t N j : Nat} {f : Nat → Value} {i : Int32} {v : Value} (X : JX M K l0 cc own nL ret nm hh lv h0 QR QX) (hd : decode cc pc = .ok (.iaload, 1)) (hT : va_T .int t N f (fun _ => False) K.2.2 K.2.2.heap) (hi : i = nI j) (hj : j < N) (hn : N < 2147483648) (hv : f j = v) (k : J M h (pc + 1) ls (v :: st)) : J M h pc ls (.int i :: .ref t :: st) := by
  obtain ⟨K1, h1, R1, X1, p, l, e, R, s, m, args, below, meth, c⟩ := M
  obtain ⟨⟨rfl, rfl, rfl, rfl, rfl⟩, hx, hb, hml, hown, hr, hlk, hts, F, hW, hR, hs0, hb0, hnm, htab⟩ := X
  intro H locs la hH hlo hla hg
  obtain ⟨cell, h1, h2, h3, h4, h5, h6, h7⟩ := va_T.moved hW.alike hT
  subst hi
  have hc := nI_clamp (n := j) (by omega)
  have hin : vp_in (nI j) N := vp_in_nI hj hn
  have hin' : ¬ (nI j < 0 ∨ cell.slots.size ≤ (nI j).toNatClampNeg) := by
    intro q
    rcases q with q | q
    · exact hin (Or.inl q)
    · rw [hc] at q
      omega
  exact W.iald (v := v) hx hb (by rw [hH.2.2.2.1 t (by rw [hH.1]; exact (Array.getElem?_eq_some_iff.mp h1).1)]; exact h1) h2 h3 hin' (by rw [hc, h6 _ hj, hv]) rfl rfl hd (k H locs la hH hlo hla hg)
end JR
