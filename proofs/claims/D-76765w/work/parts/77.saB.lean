/-! Sketch: its constructor -/
/-- an object under construction at B with its cells behind it -/
def MK (hE : JIH) (t B ci : Nat) (fs : List Value) (j : Nat) (ce : Nat → va_E) (h : JIH) (cost : Nat) : Prop := hc h t B (jO ci fs) ∧ hnew h = B + j ∧ 1 ≤ j ∧ (∀ i, 1 ≤ i → i < j → hc h t (B + i) (ce i)) ∧ Fr (fun x => x = t) hE h ∧ hres h = hres hE + cost
theorem MK.step {hE : JIH} {t B ci : Nat} {fs fs' : List Value} {j : Nat} {ce : Nat → va_E} {h : JIH} {cost : Nat} (S : MK hE t B ci fs j ce h cost) (e : va_E) (hl : esz (jO ci fs') = esz (jO ci fs)) : MK hE t B ci fs' (j + 1) (va_up ce j e) (hset (hpush h t e) B (jO ci fs')) (cost + (8 + esz e)) := by
  obtain ⟨c, hn, hj, cs, f, r⟩ := S
  have c1 := c.push t e
  have nw := hc.new h t e
  rw [hn] at nw
  refine ⟨c1.same _, by rw [hnew_set, hnew_push, hn]; omega, by omega, fun i i1 ij => ?_, f.tr ((Fr.push _ _ _ _).tr (Fr.set c1 rfl)), ?_⟩
  · by_cases ei : i = j
    · subst ei
      rw [va_up_self]
      exact nw.ne _ (by omega)
    · rw [va_up_ne _ _ ei]
      exact ((cs i i1 (by omega)).push _ _).ne _ (by omega)
  · rw [hres_setS c1 hl, hres_push, r]
    omega
def sfl (B j i : Nat) : Value := if i ≤ j then .ref (B + i) else .null
def skP (B j : Nat) : List Value := [sfl B j 1, sfl B j 2, sfl B j 3, sfl B j 4, sfl B j 5, sfl B j 6, sfl B j 7, sfl B j 8, sfl B j 9, sfl B j 10, .int 0, .int 0, .int 0, .int 0, .int 0, .int 0, .int 0, .int 0, .int 0]
theorem sk_init {K : JK} {l : Launch} {hE : JIH} (F : JF K) {t B : Nat} (hf : hc hE t B (jO 3 [.null, .null, .null, .null, .null, .null, .null, .null, .null, .null, .int 0, .int 0, .int 0, .int 0, .int 0, .int 0, .int 0, .int 0, .int 0])) (hn : hnew hE = B + 1) (hb : hE.1 ≤ B) (hr : hres hE + 3000 ≤ jRL) :
    Ct K l yX3_init wX3_init 1 [.ref B] hE (jRv (fun h' => SZ K t h' B ∧ Fr (fun x => x = t) hE h' ∧ hres h' = hres hE + 2895)) jNo := by
  have S : MK hE t B 3 (skP B 0) 1 (fun _ => jO 3 []) hE 0 := ⟨hf, hn, by decide, fun i h1 h2 => absurd h1 (by omega), Fr.rf _ _, rfl⟩
  refine st_X3_init (ls := [some (.ref B)]) F rfl (body := fun M X => ?_)
  let ce0 : Nat → va_E := fun _ => jO 3 []
  refine J.aload0 X dX3_init_0 ?_
  refine J.objInit X dX3_init_1 lk_X3_3 (by decide) ?_
  refine J.aload0 X dX3_init_4 ?_
  refine J.sipush (v := nI 400) X dX3_init_5 (by decide) ?_
  refine J.newI (n := 400) t X dX3_init_8 q387 rfl (by decide) (by have := S.2.2.2.2.2; omega) ?_
  have co := (S.1.push t (jA K 0 400 (fun _ => 0)))
  rw [S.2.1]
  refine J.fresh co.1 ?_
  refine J.putfS X dX3_init_10 pl_X3_11_X3 (co.1) (Nat.le_of_ble_eq_true rfl) (rfl) (rfl) ?_
  have S1 : MK hE t B 3 (skP B 1) 2 (va_up ce0 1 (jA K 0 400 (fun _ => 0))) (hset (hpush hE t (jA K 0 400 (fun _ => 0))) B (jO 3 (skP B 1))) 408 := S.step (jA K 0 400 (fun _ => 0)) (fs' := skP B 1) rfl
  show J M (hset (hpush hE t (jA K 0 400 (fun _ => 0))) B (jO 3 (skP B 1))) _ _ _
  revert S1
  generalize hset (hpush hE t (jA K 0 400 (fun _ => 0))) B (jO 3 (skP B 1)) = h1
  clear S co
  intro S
  let ce1 := va_up ce0 1 (jA K 0 400 (fun _ => 0))
  refine J.aload0 X dX3_init_13 ?_
  refine J.sipush (v := nI 400) X dX3_init_14 (by decide) ?_
  refine J.newI (n := 400) t X dX3_init_17 q387 rfl (by decide) (by have := S.2.2.2.2.2; omega) ?_
  have co := (S.1.push t (jA K 0 400 (fun _ => 0)))
  rw [S.2.1]
  refine J.fresh co.1 ?_
  refine J.putfS X dX3_init_19 pl_X3_15_X3 (co.1) (Nat.le_of_ble_eq_true rfl) (rfl) (rfl) ?_
  have S1 : MK hE t B 3 (skP B 2) 3 (va_up ce1 2 (jA K 0 400 (fun _ => 0))) (hset (hpush h1 t (jA K 0 400 (fun _ => 0))) B (jO 3 (skP B 2))) 816 := S.step (jA K 0 400 (fun _ => 0)) (fs' := skP B 2) rfl
  show J M (hset (hpush h1 t (jA K 0 400 (fun _ => 0))) B (jO 3 (skP B 2))) _ _ _
  revert S1
  generalize hset (hpush h1 t (jA K 0 400 (fun _ => 0))) B (jO 3 (skP B 2)) = h2
  clear S co
  intro S
  let ce2 := va_up ce1 2 (jA K 0 400 (fun _ => 0))
  refine J.aload0 X dX3_init_22 ?_
  refine J.sipush (v := nI 400) X dX3_init_23 (by decide) ?_
  refine J.newI (n := 400) t X dX3_init_26 q387 rfl (by decide) (by have := S.2.2.2.2.2; omega) ?_
  have co := (S.1.push t (jA K 0 400 (fun _ => 0)))
  rw [S.2.1]
  refine J.fresh co.1 ?_
  refine J.putfS X dX3_init_28 pl_X3_18_X3 (co.1) (Nat.le_of_ble_eq_true rfl) (rfl) (rfl) ?_
  have S1 : MK hE t B 3 (skP B 3) 4 (va_up ce2 3 (jA K 0 400 (fun _ => 0))) (hset (hpush h2 t (jA K 0 400 (fun _ => 0))) B (jO 3 (skP B 3))) 1224 := S.step (jA K 0 400 (fun _ => 0)) (fs' := skP B 3) rfl
  show J M (hset (hpush h2 t (jA K 0 400 (fun _ => 0))) B (jO 3 (skP B 3))) _ _ _
  revert S1
  generalize hset (hpush h2 t (jA K 0 400 (fun _ => 0))) B (jO 3 (skP B 3)) = h3
  clear S co
  intro S
  let ce3 := va_up ce2 3 (jA K 0 400 (fun _ => 0))
  refine J.aload0 X dX3_init_31 ?_
  refine J.sipush (v := nI 400) X dX3_init_32 (by decide) ?_
  refine J.newI (n := 400) t X dX3_init_35 q387 rfl (by decide) (by have := S.2.2.2.2.2; omega) ?_
  have co := (S.1.push t (jA K 0 400 (fun _ => 0)))
  rw [S.2.1]
  refine J.fresh co.1 ?_
  refine J.putfS X dX3_init_37 pl_X3_21_X3 (co.1) (Nat.le_of_ble_eq_true rfl) (rfl) (rfl) ?_
  have S1 : MK hE t B 3 (skP B 4) 5 (va_up ce3 4 (jA K 0 400 (fun _ => 0))) (hset (hpush h3 t (jA K 0 400 (fun _ => 0))) B (jO 3 (skP B 4))) 1632 := S.step (jA K 0 400 (fun _ => 0)) (fs' := skP B 4) rfl
  show J M (hset (hpush h3 t (jA K 0 400 (fun _ => 0))) B (jO 3 (skP B 4))) _ _ _
  revert S1
  generalize hset (hpush h3 t (jA K 0 400 (fun _ => 0))) B (jO 3 (skP B 4)) = h4
  clear S co
  intro S
  let ce4 := va_up ce3 4 (jA K 0 400 (fun _ => 0))
  refine J.aload0 X dX3_init_40 ?_
  refine J.sipush (v := nI 400) X dX3_init_41 (by decide) ?_
  refine J.newI (n := 400) t X dX3_init_44 q387 rfl (by decide) (by have := S.2.2.2.2.2; omega) ?_
  have co := (S.1.push t (jA K 0 400 (fun _ => 0)))
  rw [S.2.1]
  refine J.fresh co.1 ?_
  refine J.putfS X dX3_init_46 pl_X3_24_X3 (co.1) (Nat.le_of_ble_eq_true rfl) (rfl) (rfl) ?_
  have S1 : MK hE t B 3 (skP B 5) 6 (va_up ce4 5 (jA K 0 400 (fun _ => 0))) (hset (hpush h4 t (jA K 0 400 (fun _ => 0))) B (jO 3 (skP B 5))) 2040 := S.step (jA K 0 400 (fun _ => 0)) (fs' := skP B 5) rfl
  show J M (hset (hpush h4 t (jA K 0 400 (fun _ => 0))) B (jO 3 (skP B 5))) _ _ _
  revert S1
  generalize hset (hpush h4 t (jA K 0 400 (fun _ => 0))) B (jO 3 (skP B 5)) = h5
  clear S co
  intro S
  let ce5 := va_up ce4 5 (jA K 0 400 (fun _ => 0))
  refine J.aload0 X dX3_init_49 ?_
  refine J.sipush (v := nI 400) X dX3_init_50 (by decide) ?_
  refine J.newI (n := 400) t X dX3_init_53 q387 rfl (by decide) (by have := S.2.2.2.2.2; omega) ?_
  have co := (S.1.push t (jA K 0 400 (fun _ => 0)))
  rw [S.2.1]
  refine J.fresh co.1 ?_
  refine J.putfS X dX3_init_55 pl_X3_27_X3 (co.1) (Nat.le_of_ble_eq_true rfl) (rfl) (rfl) ?_
  have S1 : MK hE t B 3 (skP B 6) 7 (va_up ce5 6 (jA K 0 400 (fun _ => 0))) (hset (hpush h5 t (jA K 0 400 (fun _ => 0))) B (jO 3 (skP B 6))) 2448 := S.step (jA K 0 400 (fun _ => 0)) (fs' := skP B 6) rfl
  show J M (hset (hpush h5 t (jA K 0 400 (fun _ => 0))) B (jO 3 (skP B 6))) _ _ _
  revert S1
  generalize hset (hpush h5 t (jA K 0 400 (fun _ => 0))) B (jO 3 (skP B 6)) = h6
  clear S co
  intro S
  let ce6 := va_up ce5 6 (jA K 0 400 (fun _ => 0))
  refine J.aload0 X dX3_init_58 ?_
  refine J.sipush (v := nI 400) X dX3_init_59 (by decide) ?_
  refine J.newZ (n := 400) t X dX3_init_62 q388 rfl (by decide) (by have := S.2.2.2.2.2; omega) ?_
  have co := (S.1.push t (jA K 4 400 (fun _ => 0)))
  rw [S.2.1]
  refine J.fresh co.1 ?_
  refine J.putfS X dX3_init_64 pl_X3_30_X3 (co.1) (Nat.le_of_ble_eq_true rfl) (rfl) (rfl) ?_
  have S1 : MK hE t B 3 (skP B 7) 8 (va_up ce6 7 (jA K 4 400 (fun _ => 0))) (hset (hpush h6 t (jA K 4 400 (fun _ => 0))) B (jO 3 (skP B 7))) 2856 := S.step (jA K 4 400 (fun _ => 0)) (fs' := skP B 7) rfl
  show J M (hset (hpush h6 t (jA K 4 400 (fun _ => 0))) B (jO 3 (skP B 7))) _ _ _
  revert S1
  generalize hset (hpush h6 t (jA K 4 400 (fun _ => 0))) B (jO 3 (skP B 7)) = h7
  clear S co
  intro S
  let ce7 := va_up ce6 7 (jA K 4 400 (fun _ => 0))
  refine J.aload0 X dX3_init_67 ?_
  refine J.iconst (v := nI 5) X dX3_init_68 (by decide) ?_
  refine J.newI (n := 5) t X dX3_init_69 q387 rfl (by decide) (by have := S.2.2.2.2.2; omega) ?_
  have co := (S.1.push t (jA K 0 5 (fun _ => 0)))
  rw [S.2.1]
  refine J.fresh co.1 ?_
  refine J.putfS X dX3_init_71 pl_X3_34_X3 (co.1) (Nat.le_of_ble_eq_true rfl) (rfl) (rfl) ?_
  have S1 : MK hE t B 3 (skP B 8) 9 (va_up ce7 8 (jA K 0 5 (fun _ => 0))) (hset (hpush h7 t (jA K 0 5 (fun _ => 0))) B (jO 3 (skP B 8))) 2869 := S.step (jA K 0 5 (fun _ => 0)) (fs' := skP B 8) rfl
  show J M (hset (hpush h7 t (jA K 0 5 (fun _ => 0))) B (jO 3 (skP B 8))) _ _ _
  revert S1
  generalize hset (hpush h7 t (jA K 0 5 (fun _ => 0))) B (jO 3 (skP B 8)) = h8
  clear S co
  intro S
  let ce8 := va_up ce7 8 (jA K 0 5 (fun _ => 0))
  refine J.aload0 X dX3_init_74 ?_
  refine J.iconst (v := nI 5) X dX3_init_75 (by decide) ?_
  refine J.newI (n := 5) t X dX3_init_76 q387 rfl (by decide) (by have := S.2.2.2.2.2; omega) ?_
  have co := (S.1.push t (jA K 0 5 (fun _ => 0)))
  rw [S.2.1]
  refine J.fresh co.1 ?_
  refine J.putfS X dX3_init_78 pl_X3_37_X3 (co.1) (Nat.le_of_ble_eq_true rfl) (rfl) (rfl) ?_
  have S1 : MK hE t B 3 (skP B 9) 10 (va_up ce8 9 (jA K 0 5 (fun _ => 0))) (hset (hpush h8 t (jA K 0 5 (fun _ => 0))) B (jO 3 (skP B 9))) 2882 := S.step (jA K 0 5 (fun _ => 0)) (fs' := skP B 9) rfl
  show J M (hset (hpush h8 t (jA K 0 5 (fun _ => 0))) B (jO 3 (skP B 9))) _ _ _
  revert S1
  generalize hset (hpush h8 t (jA K 0 5 (fun _ => 0))) B (jO 3 (skP B 9)) = h9
  clear S co
  intro S
  let ce9 := va_up ce8 9 (jA K 0 5 (fun _ => 0))
  refine J.aload0 X dX3_init_81 ?_
  refine J.iconst (v := nI 5) X dX3_init_82 (by decide) ?_
  refine J.newI (n := 5) t X dX3_init_83 q387 rfl (by decide) (by have := S.2.2.2.2.2; omega) ?_
  have co := (S.1.push t (jA K 0 5 (fun _ => 0)))
  rw [S.2.1]
  refine J.fresh co.1 ?_
  refine J.putfS X dX3_init_85 pl_X3_40_X3 (co.1) (Nat.le_of_ble_eq_true rfl) (rfl) (rfl) ?_
  have S1 : MK hE t B 3 (skP B 10) 11 (va_up ce9 10 (jA K 0 5 (fun _ => 0))) (hset (hpush h9 t (jA K 0 5 (fun _ => 0))) B (jO 3 (skP B 10))) 2895 := S.step (jA K 0 5 (fun _ => 0)) (fs' := skP B 10) rfl
  show J M (hset (hpush h9 t (jA K 0 5 (fun _ => 0))) B (jO 3 (skP B 10))) _ _ _
  revert S1
  generalize hset (hpush h9 t (jA K 0 5 (fun _ => 0))) B (jO 3 (skP B 10)) = h10
  clear S co
  intro S
  let ce10 := va_up ce9 10 (jA K 0 5 (fun _ => 0))
  refine J.vreturn X dX3_init_88 (jRv.of ?_)
  obtain ⟨c, hn', -, cs, f, r⟩ := S
  refine ⟨⟨fun _ => 0, 0, fun _ => 0, fun _ => some 0, fun _ => some 0, fun _ => 0, fun _ => 0, fun _ => 0, fun _ => 0, fun _ => some 0, fun _ => some 0, fun _ => 0, ⟨c.1, (cs 1 (by decide) (by decide)).1, (cs 2 (by decide) (by decide)).1, (cs 3 (by decide) (by decide)).1, (cs 4 (by decide) (by decide)).1, (cs 5 (by decide) (by decide)).1, (cs 6 (by decide) (by decide)).1, (cs 7 (by decide) (by decide)).1, (cs 8 (by decide) (by decide)).1, (cs 9 (by decide) (by decide)).1, (cs 10 (by decide) (by decide)).1⟩, ⟨by omega, by rw [f.1]; exact hb, fun j hj => ?_⟩, ?_⟩, f, r⟩
  · by_cases e : j = 0
    · subst e; exact c.2
    · exact (cs j (by omega) hj).2
  · have : ∀ n, skB (fun _ => some 0) n := fun n i hi b hb => by cases hb; decide
    exact ⟨this _, this _, this _, this _, fun _ => Nat.zero_lt_two⟩
