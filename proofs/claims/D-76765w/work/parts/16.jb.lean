/-! truth values; some more rows -/
def jB (c : Prop) [Decidable c] : Int32 := if c then 1 else 0
theorem jB_t {c : Prop} [Decidable c] (h : c) : jB c = 1 := if_pos h
theorem jB_f {c : Prop} [Decidable c] (h : ¬ c) : jB c = 0 := if_neg h
theorem jB_1 {c : Prop} [Decidable c] (h : c) : nI 1 = jB c := (if_pos h).symm
theorem jB_0 {c : Prop} [Decidable c] (h : ¬ c) : nI 0 = jB c := (if_neg h).symm
theorem jB_z {c : Prop} [Decidable c] : jB c = 0 ↔ ¬ c := by
  unfold jB
  by_cases h : c
  · rw [if_pos h]; exact ⟨fun q => absurd q (by decide), fun q => absurd h q⟩
  · rw [if_neg h]; exact ⟨fun _ => h, fun _ => rfl⟩
theorem jB_n {c : Prop} [Decidable c] : narrow .boolean (.int (jB c)) = .int (jB c) := by
  unfold jB
  by_cases h : c
  · rw [if_pos h]; rfl
  · rw [if_neg h]; rfl
theorem jB_iff {c d : Prop} [Decidable c] [Decidable d] (h : c ↔ d) : jB c = jB d := by
  by_cases q : c
  · rw [jB_t q, jB_t (h.mp q)]
  · rw [jB_f q, jB_f (fun z => q (h.mpr z))]
section JR
variable {M : JM} {K : JK} {l0 : Launch} {cc : ByteArray} {own : String} {nL : Nat} {ret : Option FieldType} {nm : String} {hh : List (Nat × Nat × Nat × Nat)} {lv : Nat} {h0 : JIH} {QR : JQR} {QX : JQX} {h : JIH} {pc : Nat} {ls : List (Option Value)} {st : List Value}
theorem J.if_eqB {b : Prop} [Decidable b] {off : Int} {tgt : Nat} (X : JX M K l0 cc own nL ret nm hh lv h0 QR QX) (hd : decode cc pc = .ok (.ifCond .eq off, 3)) (ht : (pc : Int) + off = (tgt : Int)) (kt : ¬ b → J M h tgt ls st) (kf : b → J M h (pc + 3) ls st) : J M h pc ls (.int (jB b) :: st) := J.if_eq X hd ht (fun q => kt (jB_z.mp q)) (fun q => kf (Decidable.byContradiction fun z => q (jB_z.mpr z)))
theorem J.if_neB {b : Prop} [Decidable b] {off : Int} {tgt : Nat} (X : JX M K l0 cc own nL ret nm hh lv h0 QR QX) (hd : decode cc pc = .ok (.ifCond .ne off, 3)) (ht : (pc : Int) + off = (tgt : Int)) (kt : b → J M h tgt ls st) (kf : ¬ b → J M h (pc + 3) ls st) : J M h pc ls (.int (jB b) :: st) := J.if_ne X hd ht (fun q => kt (Decidable.byContradiction fun z => q (jB_z.mpr z))) (fun q => kf (jB_z.mp q))
theorem J.iadd0N {b : Nat} (X : JX M K l0 cc own nL ret nm hh lv h0 QR QX) (hd : decode cc pc = .ok (.iadd, 1)) (k : J M h (pc + 1) ls (.int (nI b) :: st)) : J M h pc ls (.int (nI b) :: .int (nI 0) :: st) := J.iadd X hd (J.topi ((nI_add 0 b).trans (by rw [Nat.zero_add])) k)
theorem J.iadd0I {b : Int32} (X : JX M K l0 cc own nL ret nm hh lv h0 QR QX) (hd : decode cc pc = .ok (.iadd, 1)) (k : J M h (pc + 1) ls (.int b :: st)) : J M h pc ls (.int b :: .int (nI 0) :: st) := J.iadd X hd (J.topi (show (0 : Int32) + b = b from Int32.zero_add b) k)
theorem J.dup_x2 {va vb vc : Value} (X : JX M K l0 cc own nL ret nm hh lv h0 QR QX) (hd : decode cc pc = .ok (.dup_x2, 1)) (k : J M h (pc + 1) ls (va :: vb :: vc :: va :: st)) (hva : va.category = 1 := by first | rfl | exact jref_cat (jref_rf _)) (hvb : vb.category = 1 := by first | rfl | exact jref_cat (jref_rf _)) (hvc : vc.category = 1 := by first | rfl | exact jref_cat (jref_rf _)) : J M h pc ls (va :: vb :: vc :: st) := by
  obtain ⟨K1, h1, R1, X1, p, l, e, R, s, m, args, below, meth, c⟩ := M
  obtain ⟨⟨rfl, rfl, rfl, rfl, rfl⟩, hx, hb, hml, hown, hr, hlk, hts, F, hW, hR, hs0, hb0, hnm, htab⟩ := X
  intro H locs la hH hlo hla hg
  exact lv_dup_x2 hx hb hd hva hvb hvc (k H locs la hH hlo hla hg)
end JR
