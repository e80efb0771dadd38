/-! the model's constructor -/
theorem hmz_fr (T : Nat → Prop) (K : JK) (h : JIH) (t : Nat) : ∀ i, Fr T h (hmz K h t i)
  | 0 => Fr.push _ _ _ _
  | i + 1 => (hmz_fr T K h t i).tr (Fr.push _ _ _ _)
theorem hmz_res (K : JK) (h : JIH) (t : Nat) : hres (hmz K h t 6) = hres h + 422 := by
  obtain ⟨-, -, z3, z4, -⟩ := hmz_facts K h t 6
  show 8 * _ + _ = 8 * _ + _ + 422
  rw [z3, z4]; omega
theorem hc.mz {K : JK} {h : JIH} {t a : Nat} {e : va_E} (g : hc h t a e) (t1 : Nat) : hc (hmz K h t1 6) t a e := g.fr (T := fun _ => False) (hmz_fr _ _ _ _ _) (fun z => z)
theorem MK.multi {K : JK} {hE : JIH} {t B ci : Nat} {fs fs' : List Value} {j : Nat} {ce : Nat → va_E} {h : JIH} {cost : Nat} (S : MK hE t B ci fs j ce h cost) (hl : esz (jO ci fs') = esz (jO ci fs)) : MK hE t B ci fs' (j + 7) (fun i => if i < j then ce i else if i = j then jAR K 10 6 (fun i => some (B + j + 1 + i)) else jAL K 60 (fun _ => 0)) (hset (hmz K h t 6) B (jO ci fs')) (cost + 422) := by
  obtain ⟨c, hn, hj, cs, f, r⟩ := S
  have c1 : hc (hmz K h t 6) t B (jO ci fs) := c.mz t
  obtain ⟨z1, -, -, -, -, z6, z7, -⟩ := hmz_facts K h t 6
  refine ⟨c1.same _, by rw [hnew_set, z1, hn]; omega, by omega, fun i i1 ij => ?_, f.tr ((hmz_fr _ _ _ _ _).tr (Fr.set c1 rfl)), by rw [hres_setS c1 hl, hmz_res, r]; omega⟩
  show hc _ t (B + i) (if i < j then ce i else if i = j then jAR K 10 6 (fun i => some (B + j + 1 + i)) else jAL K 60 (fun _ => 0))
  by_cases e1 : i < j
  · rw [if_pos e1]
    exact ((cs i i1 e1).mz t).ne _ (by omega)
  · rw [if_neg e1]
    by_cases e2 : i = j
    · rw [if_pos e2, e2, ← hn]
      exact z6.ne _ (by omega)
    · rw [if_neg e2]
      have := z7 (i - j - 1) (by omega)
      rw [hn, show B + j + 1 + (i - j - 1) = B + i by omega] at this
      exact this.ne _ (by omega)
def twP (B j : Nat) : List Value := [sfl B j 1, sfl B j 2, sfl B j 3, .int 0, sfl B j 4, .int 0, sfl B j 5, .int 0, sfl B j 6, sfl B j 7, sfl B j 8, sfl B j 9, .int 0, sfl B j 10, sfl B j 11, sfl B j 12, sfl B j 19, .int 0, .int 0]
def tg0 : Nat → Int32 := upd (upd (upd (upd (fun _ => 0) 3200 20) 3201 10) 3202 2) 3203 1
theorem tw_init {K : JK} {l : Launch} {hE : JIH} (F : JF K) {A : Nat} (hf : hc hE 5 A (jO 5 [.null, .null, .null, .int 0, .null, .int 0, .null, .int 0, .null, .null, .null, .null, .int 0, .null, .null, .null, .null, .int 0, .int 0])) (hn : hnew hE = A + 1) (hr : hres hE + 12000 ≤ jRL) :
    Ct K l yX5_init wX5_init 1 [.ref A] hE (jRv (fun h' => TwR K h' A tg0 (fun _ => 0) (fun _ => 0) (fun _ => 0) (fun _ => 0) (fun _ => 0) (fun _ => 0) (fun _ => 0) (fun _ => 0) (fun i => if i < 6 then -1 else 0) (fun _ => 0) (fun _ _ => 0) (fun _ => 0) 0 0 0 0 0 0 ∧ (∀ j, j < 20 → htag h' (A + j) = 5) ∧ Fr (fun x => x = 5) hE h' ∧ hnew h' = A + 20 ∧ hres h' = hres hE + 11215)) jNo := by
  have S : MK hE 5 A 5 (twP A 0) 1 (fun _ => jO 5 []) hE 0 := ⟨hf, hn, by decide, fun i h1 h2 => absurd h1 (by omega), Fr.rf _ _, rfl⟩
  refine st_X5_init (ls := [some (.ref A), none]) F rfl (body := fun M X => ?_)
  let ce0 : Nat → va_E := fun _ => jO 5 []
  refine J.aload0 X dX5_init_0 ?_
  refine J.objInit X dX5_init_1 lk_X5_5 (by decide) ?_
  refine J.aload0 X dX5_init_4 ?_
  refine J.sipush (v := nI 3253) X dX5_init_5 (by decide) ?_
  refine J.newI (n := 3253) 5 X dX5_init_8 q387 rfl (by decide) (by have := S.2.2.2.2.2; omega) ?_
  have co := (S.1.push 5 (jA K 0 3253 (fun _ => 0)))
  rw [S.2.1]
  refine J.fresh co.1 ?_
  refine J.putfS X dX5_init_10 pl_X5_11_X5 (co.1) (Nat.le_of_ble_eq_true rfl) (rfl) (rfl) ?_
  have S1 : MK hE 5 A 5 (twP A 1) 2 (va_up ce0 1 (jA K 0 3253 (fun _ => 0))) (hset (hpush hE 5 (jA K 0 3253 (fun _ => 0))) A (jO 5 (twP A 1))) 3261 := S.step (jA K 0 3253 (fun _ => 0)) (fs' := twP A 1) rfl
  show J M (hset (hpush hE 5 (jA K 0 3253 (fun _ => 0))) A (jO 5 (twP A 1))) _ _ _
  revert S1
  generalize hset (hpush hE 5 (jA K 0 3253 (fun _ => 0))) A (jO 5 (twP A 1)) = h1
  clear S co
  intro S
  let ce1 := va_up ce0 1 (jA K 0 3253 (fun _ => 0))
  refine J.aload0 X dX5_init_13 ?_
  refine J.sipush (v := nI 3253) X dX5_init_14 (by decide) ?_
  refine J.newI (n := 3253) 5 X dX5_init_17 q387 rfl (by decide) (by have := S.2.2.2.2.2; omega) ?_
  have co := (S.1.push 5 (jA K 0 3253 (fun _ => 0)))
  rw [S.2.1]
  refine J.fresh co.1 ?_
  refine J.putfS X dX5_init_19 pl_X5_15_X5 (co.1) (Nat.le_of_ble_eq_true rfl) (rfl) (rfl) ?_
  have S1 : MK hE 5 A 5 (twP A 2) 3 (va_up ce1 2 (jA K 0 3253 (fun _ => 0))) (hset (hpush h1 5 (jA K 0 3253 (fun _ => 0))) A (jO 5 (twP A 2))) 6522 := S.step (jA K 0 3253 (fun _ => 0)) (fs' := twP A 2) rfl
  show J M (hset (hpush h1 5 (jA K 0 3253 (fun _ => 0))) A (jO 5 (twP A 2))) _ _ _
  revert S1
  generalize hset (hpush h1 5 (jA K 0 3253 (fun _ => 0))) A (jO 5 (twP A 2)) = h2
  clear S co
  intro S
  let ce2 := va_up ce1 2 (jA K 0 3253 (fun _ => 0))
  refine J.aload0 X dX5_init_22 ?_
  refine J.sipush (v := nI 3253) X dX5_init_23 (by decide) ?_
  refine J.newI (n := 3253) 5 X dX5_init_26 q387 rfl (by decide) (by have := S.2.2.2.2.2; omega) ?_
  have co := (S.1.push 5 (jA K 0 3253 (fun _ => 0)))
  rw [S.2.1]
  refine J.fresh co.1 ?_
  refine J.putfS X dX5_init_28 pl_X5_18_X5 (co.1) (Nat.le_of_ble_eq_true rfl) (rfl) (rfl) ?_
  have S1 : MK hE 5 A 5 (twP A 3) 4 (va_up ce2 3 (jA K 0 3253 (fun _ => 0))) (hset (hpush h2 5 (jA K 0 3253 (fun _ => 0))) A (jO 5 (twP A 3))) 9783 := S.step (jA K 0 3253 (fun _ => 0)) (fs' := twP A 3) rfl
  show J M (hset (hpush h2 5 (jA K 0 3253 (fun _ => 0))) A (jO 5 (twP A 3))) _ _ _
  revert S1
  generalize hset (hpush h2 5 (jA K 0 3253 (fun _ => 0))) A (jO 5 (twP A 3)) = h3
  clear S co
  intro S
  let ce3 := va_up ce2 3 (jA K 0 3253 (fun _ => 0))
  refine J.aload0 X dX5_init_31 ?_
  refine J.sipush (v := nI 400) X dX5_init_32 (by decide) ?_
  refine J.newI (n := 400) 5 X dX5_init_35 q387 rfl (by decide) (by have := S.2.2.2.2.2; omega) ?_
  have co := (S.1.push 5 (jA K 0 400 (fun _ => 0)))
  rw [S.2.1]
  refine J.fresh co.1 ?_
  refine J.putfS X dX5_init_37 pl_X5_21_X5 (co.1) (Nat.le_of_ble_eq_true rfl) (rfl) (rfl) ?_
  have S1 : MK hE 5 A 5 (twP A 4) 5 (va_up ce3 4 (jA K 0 400 (fun _ => 0))) (hset (hpush h3 5 (jA K 0 400 (fun _ => 0))) A (jO 5 (twP A 4))) 10191 := S.step (jA K 0 400 (fun _ => 0)) (fs' := twP A 4) rfl
  show J M (hset (hpush h3 5 (jA K 0 400 (fun _ => 0))) A (jO 5 (twP A 4))) _ _ _
  revert S1
  generalize hset (hpush h3 5 (jA K 0 400 (fun _ => 0))) A (jO 5 (twP A 4)) = h4
  clear S co
  intro S
  let ce4 := va_up ce3 4 (jA K 0 400 (fun _ => 0))
  refine J.aload0 X dX5_init_40 ?_
  refine J.bipush (v := nI 100) X dX5_init_41 (by decide) ?_
  refine J.newI (n := 100) 5 X dX5_init_43 q387 rfl (by decide) (by have := S.2.2.2.2.2; omega) ?_
  have co := (S.1.push 5 (jA K 0 100 (fun _ => 0)))
  rw [S.2.1]
  refine J.fresh co.1 ?_
  refine J.putfS X dX5_init_45 pl_X5_24_X5 (co.1) (Nat.le_of_ble_eq_true rfl) (rfl) (rfl) ?_
  have S1 : MK hE 5 A 5 (twP A 5) 6 (va_up ce4 5 (jA K 0 100 (fun _ => 0))) (hset (hpush h4 5 (jA K 0 100 (fun _ => 0))) A (jO 5 (twP A 5))) 10299 := S.step (jA K 0 100 (fun _ => 0)) (fs' := twP A 5) rfl
  show J M (hset (hpush h4 5 (jA K 0 100 (fun _ => 0))) A (jO 5 (twP A 5))) _ _ _
  revert S1
  generalize hset (hpush h4 5 (jA K 0 100 (fun _ => 0))) A (jO 5 (twP A 5)) = h5
  clear S co
  intro S
  let ce5 := va_up ce4 5 (jA K 0 100 (fun _ => 0))
  refine J.aload0 X dX5_init_48 ?_
  refine J.bipush (v := nI 120) X dX5_init_49 (by decide) ?_
  refine J.newI (n := 120) 5 X dX5_init_51 q387 rfl (by decide) (by have := S.2.2.2.2.2; omega) ?_
  have co := (S.1.push 5 (jA K 0 120 (fun _ => 0)))
  rw [S.2.1]
  refine J.fresh co.1 ?_
  refine J.putfS X dX5_init_53 pl_X5_27_X5 (co.1) (Nat.le_of_ble_eq_true rfl) (rfl) (rfl) ?_
  have S1 : MK hE 5 A 5 (twP A 6) 7 (va_up ce5 6 (jA K 0 120 (fun _ => 0))) (hset (hpush h5 5 (jA K 0 120 (fun _ => 0))) A (jO 5 (twP A 6))) 10427 := S.step (jA K 0 120 (fun _ => 0)) (fs' := twP A 6) rfl
  show J M (hset (hpush h5 5 (jA K 0 120 (fun _ => 0))) A (jO 5 (twP A 6))) _ _ _
  revert S1
  generalize hset (hpush h5 5 (jA K 0 120 (fun _ => 0))) A (jO 5 (twP A 6)) = h6
  clear S co
  intro S
  let ce6 := va_up ce5 6 (jA K 0 120 (fun _ => 0))
  refine J.aload0 X dX5_init_56 ?_
  refine J.bipush (v := nI 120) X dX5_init_57 (by decide) ?_
  refine J.newI (n := 120) 5 X dX5_init_59 q387 rfl (by decide) (by have := S.2.2.2.2.2; omega) ?_
  have co := (S.1.push 5 (jA K 0 120 (fun _ => 0)))
  rw [S.2.1]
  refine J.fresh co.1 ?_
  refine J.putfS X dX5_init_61 pl_X5_30_X5 (co.1) (Nat.le_of_ble_eq_true rfl) (rfl) (rfl) ?_
  have S1 : MK hE 5 A 5 (twP A 7) 8 (va_up ce6 7 (jA K 0 120 (fun _ => 0))) (hset (hpush h6 5 (jA K 0 120 (fun _ => 0))) A (jO 5 (twP A 7))) 10555 := S.step (jA K 0 120 (fun _ => 0)) (fs' := twP A 7) rfl
  show J M (hset (hpush h6 5 (jA K 0 120 (fun _ => 0))) A (jO 5 (twP A 7))) _ _ _
  revert S1
  generalize hset (hpush h6 5 (jA K 0 120 (fun _ => 0))) A (jO 5 (twP A 7)) = h7
  clear S co
  intro S
  let ce7 := va_up ce6 7 (jA K 0 120 (fun _ => 0))
  refine J.aload0 X dX5_init_64 ?_
  refine J.bipush (v := nI 120) X dX5_init_65 (by decide) ?_
  refine J.newI (n := 120) 5 X dX5_init_67 q387 rfl (by decide) (by have := S.2.2.2.2.2; omega) ?_
  have co := (S.1.push 5 (jA K 0 120 (fun _ => 0)))
  rw [S.2.1]
  refine J.fresh co.1 ?_
  refine J.putfS X dX5_init_69 pl_X5_33_X5 (co.1) (Nat.le_of_ble_eq_true rfl) (rfl) (rfl) ?_
  have S1 : MK hE 5 A 5 (twP A 8) 9 (va_up ce7 8 (jA K 0 120 (fun _ => 0))) (hset (hpush h7 5 (jA K 0 120 (fun _ => 0))) A (jO 5 (twP A 8))) 10683 := S.step (jA K 0 120 (fun _ => 0)) (fs' := twP A 8) rfl
  show J M (hset (hpush h7 5 (jA K 0 120 (fun _ => 0))) A (jO 5 (twP A 8))) _ _ _
  revert S1
  generalize hset (hpush h7 5 (jA K 0 120 (fun _ => 0))) A (jO 5 (twP A 8)) = h8
  clear S co
  intro S
  let ce8 := va_up ce7 8 (jA K 0 120 (fun _ => 0))
  refine J.aload0 X dX5_init_72 ?_
  refine J.bipush (v := nI 6) X dX5_init_73 (by decide) ?_
  refine J.newI (n := 6) 5 X dX5_init_75 q387 rfl (by decide) (by have := S.2.2.2.2.2; omega) ?_
  have co := (S.1.push 5 (jA K 0 6 (fun _ => 0)))
  rw [S.2.1]
  refine J.fresh co.1 ?_
  refine J.putfS X dX5_init_77 pl_X5_36_X5 (co.1) (Nat.le_of_ble_eq_true rfl) (rfl) (rfl) ?_
  have S1 : MK hE 5 A 5 (twP A 9) 10 (va_up ce8 9 (jA K 0 6 (fun _ => 0))) (hset (hpush h8 5 (jA K 0 6 (fun _ => 0))) A (jO 5 (twP A 9))) 10697 := S.step (jA K 0 6 (fun _ => 0)) (fs' := twP A 9) rfl
  show J M (hset (hpush h8 5 (jA K 0 6 (fun _ => 0))) A (jO 5 (twP A 9))) _ _ _
  revert S1
  generalize hset (hpush h8 5 (jA K 0 6 (fun _ => 0))) A (jO 5 (twP A 9)) = h9
  clear S co
  intro S
  let ce9 := va_up ce8 9 (jA K 0 6 (fun _ => 0))
  refine J.aload0 X dX5_init_80 ?_
  refine J.bipush (v := nI 6) X dX5_init_81 (by decide) ?_
  refine J.newI (n := 6) 5 X dX5_init_83 q387 rfl (by decide) (by have := S.2.2.2.2.2; omega) ?_
  have co := (S.1.push 5 (jA K 0 6 (fun _ => 0)))
  rw [S.2.1]
  refine J.fresh co.1 ?_
  refine J.putfS X dX5_init_85 pl_X5_39_X5 (co.1) (Nat.le_of_ble_eq_true rfl) (rfl) (rfl) ?_
  have S1 : MK hE 5 A 5 (twP A 10) 11 (va_up ce9 10 (jA K 0 6 (fun _ => 0))) (hset (hpush h9 5 (jA K 0 6 (fun _ => 0))) A (jO 5 (twP A 10))) 10711 := S.step (jA K 0 6 (fun _ => 0)) (fs' := twP A 10) rfl
  show J M (hset (hpush h9 5 (jA K 0 6 (fun _ => 0))) A (jO 5 (twP A 10))) _ _ _
  revert S1
  generalize hset (hpush h9 5 (jA K 0 6 (fun _ => 0))) A (jO 5 (twP A 10)) = h10
  clear S co
  intro S
  let ce10 := va_up ce9 10 (jA K 0 6 (fun _ => 0))
  refine J.aload0 X dX5_init_88 ?_
  refine J.bipush (v := nI 6) X dX5_init_89 (by decide) ?_
  refine J.newI (n := 6) 5 X dX5_init_91 q387 rfl (by decide) (by have := S.2.2.2.2.2; omega) ?_
  have co := (S.1.push 5 (jA K 0 6 (fun _ => 0)))
  rw [S.2.1]
  refine J.fresh co.1 ?_
  refine J.putfS X dX5_init_93 pl_X5_42_X5 (co.1) (Nat.le_of_ble_eq_true rfl) (rfl) (rfl) ?_
  have S1 : MK hE 5 A 5 (twP A 11) 12 (va_up ce10 11 (jA K 0 6 (fun _ => 0))) (hset (hpush h10 5 (jA K 0 6 (fun _ => 0))) A (jO 5 (twP A 11))) 10725 := S.step (jA K 0 6 (fun _ => 0)) (fs' := twP A 11) rfl
  show J M (hset (hpush h10 5 (jA K 0 6 (fun _ => 0))) A (jO 5 (twP A 11))) _ _ _
  revert S1
  generalize hset (hpush h10 5 (jA K 0 6 (fun _ => 0))) A (jO 5 (twP A 11)) = h11
  clear S co
  intro S
  let ce11 := va_up ce10 11 (jA K 0 6 (fun _ => 0))
  refine J.aload0 X dX5_init_96 ?_
  refine J.bipush (v := nI 6) X dX5_init_97 (by decide) ?_
  refine J.bipush (v := nI 60) X dX5_init_99 (by decide) ?_
  refine J.multi 5 X dX5_init_101 q2737 (by have := S.2.2.2.2.2; omega) ?_
  have co := S.1.mz (K := K) 5
  rw [S.2.1]
  refine J.fresh co.1 ?_
  refine J.putfS X dX5_init_105 pl_X5_47_X5 (co.1) (Nat.le_of_ble_eq_true rfl) (rfl) (rfl) ?_
  have S1 := S.multi (K := K) (fs' := twP A 12) rfl
  show J M (hset (hmz K h11 5 6) A (jO 5 (twP A 12))) _ _ _
  revert S1
  generalize hset (hmz K h11 5 6) A (jO 5 (twP A 12)) = h12
  clear S co
  intro S
  refine J.aload0 X dX5_init_108 ?_
  refine J.bipush (v := nI 60) X dX5_init_109 (by decide) ?_
  refine J.newL (n := 60) 5 X dX5_init_111 q2667 rfl (by decide) (by have := S.2.2.2.2.2; omega) ?_
  have co := (S.1.push 5 (jAL K 60 (fun _ => 0)))
  rw [S.2.1]
  refine J.fresh co.1 ?_
  refine J.putfS X dX5_init_113 pl_X5_50_X5 (co.1) (Nat.le_of_ble_eq_true rfl) (rfl) (rfl) ?_
  have S1 := S.step (jAL K 60 (fun _ => 0)) (fs' := twP A 19) rfl
  show J M (hset (hpush h12 5 (jAL K 60 (fun _ => 0))) A (jO 5 (twP A 19))) _ _ _
  revert S1
  generalize hset (hpush h12 5 (jAL K 60 (fun _ => 0))) A (jO 5 (twP A 19)) = h13
  clear S co
  intro S
  obtain ⟨c, hn', -, cs, f, r⟩ := S
  have T : TwR K h13 A (fun _ => 0) (fun _ => 0) (fun _ => 0) (fun _ => 0) (fun _ => 0) (fun _ => 0) (fun _ => 0) (fun _ => 0) (fun _ => 0) (fun _ => 0) (fun _ => 0) (fun _ _ => 0) (fun _ => 0) 0 0 0 0 0 0 := by
    refine ⟨c.1, (cs 1 (by decide) (by decide)).1, (cs 2 (by decide) (by decide)).1, (cs 3 (by decide) (by decide)).1, (cs 4 (by decide) (by decide)).1, (cs 5 (by decide) (by decide)).1, (cs 6 (by decide) (by decide)).1, (cs 7 (by decide) (by decide)).1, (cs 8 (by decide) (by decide)).1, (cs 9 (by decide) (by decide)).1, (cs 10 (by decide) (by decide)).1, (cs 11 (by decide) (by decide)).1, (cs 12 (by decide) (by decide)).1, fun q hq => ?_, (cs 19 (by decide) (by decide)).1⟩
    have := (cs (13 + q) (by omega) (by omega)).1
    rw [va_up_ne _ _ (by omega), if_neg (by omega), if_neg (by omega), ← Nat.add_assoc] at this
    exact this
  have tg : ∀ j, j < 20 → htag h13 (A + j) = 5 := fun j hj => by
    by_cases e : j = 0
    · subst e; exact c.2
    · exact (cs j (by omega) hj).2
  have S := T.S
  refine J.aload0 X dX5_init_116 ?_
  refine J.getf X dX5_init_117 fl_X5_11_X5 (S.o) rfl ?_
  refine J.sipush (v := nI 3200) X dX5_init_120 (by decide) ?_
  refine J.bipush (v := nI 20) X dX5_init_123 (by decide) ?_
  refine J.tw_g X dX5_init_125 S (rfl) (by omega) (fun h S => ?_)
  refine J.aload0 X dX5_init_126 ?_
  refine J.getf X dX5_init_127 fl_X5_11_X5 (S.o) rfl ?_
  refine J.sipush (v := nI 3201) X dX5_init_130 (by decide) ?_
  refine J.bipush (v := nI 10) X dX5_init_133 (by decide) ?_
  refine J.tw_g X dX5_init_135 S (rfl) (by omega) (fun h S => ?_)
  refine J.aload0 X dX5_init_136 ?_
  refine J.getf X dX5_init_137 fl_X5_11_X5 (S.o) rfl ?_
  refine J.at (pc' := 140) rfl ?_
  refine J.sipush (v := nI 3202) X dX5_init_140 (by decide) ?_
  refine J.iconst (v := nI 2) X dX5_init_143 (by decide) ?_
  refine J.tw_g X dX5_init_144 S (rfl) (by omega) (fun h S => ?_)
  refine J.aload0 X dX5_init_145 ?_
  refine J.getf X dX5_init_146 fl_X5_11_X5 (S.o) rfl ?_
  refine J.sipush (v := nI 3203) X dX5_init_149 (by decide) ?_
  refine J.iconst (v := nI 1) X dX5_init_152 (by decide) ?_
  refine J.tw_g X dX5_init_153 S (rfl) (by omega) (fun h S => ?_)
  refine J.iconst (v := nI 0) X dX5_init_154 (by decide) ?_
  refine J.istore1 X dX5_init_155 ?_
  have loop : ∀ (n k : Nat) (h : JIH) (ts : Nat → Int32), k + n = 6 → TwS K h13 h A tg0 (fun _ => 0) (fun _ => 0) (fun _ => 0) (fun _ => 0) (fun _ => 0) (fun _ => 0) (fun _ => 0) (fun _ => 0) ts (fun _ => 0) (fun _ _ => 0) (fun _ => 0) 0 0 0 0 0 0 → (∀ i, ts i = if i < k then -1 else 0) → J M h 156 [some (.ref A), some (.int (nI k))] [] := by
    intro n
    induction n with
    | zero =>
      intro k h ts hk S hts
      have e6 : k = 6 := by omega
      subst e6
      have ets : ts = fun i => if i < 6 then -1 else 0 := funext hts
      subst ets
      refine J.iload1 X dX5_init_156 ?_
      refine J.bipush (v := nI 6) X dX5_init_157 (by decide) ?_
      refine J.icmp_geN (tgt := 175) X dX5_init_159 (by decide) (by omega) (by omega) (fun _ => ?_) (fun q9 => absurd q9 (by omega))
      refine J.vreturn X dX5_init_175 (jRv.of ?_)
      refine ⟨S.1, fun j hj => (S.2.2.2.2.1 _).trans (tg j hj), f.tr ?_, ?_, ?_⟩
      · refine ⟨S.2.1, ?_, fun a _ => S.2.2.2.2.1 a, fun a ha ht => S.2.2.2.2.2 a ?_⟩
        · unfold hnew; rw [S.2.1, S.2.2.1]; exact Nat.le_refl _
        · rcases Nat.lt_or_ge a A with q | q
          · exact Or.inl q
          · rcases Nat.lt_or_ge a (A + 20) with q2 | q2
            · refine absurd ?_ ht
              have := tg (a - A) (by omega)
              rw [show A + (a - A) = a by omega] at this
              exact this
            · exact Or.inr q2
      · unfold hnew at hn' ⊢; rw [S.2.1, S.2.2.1]; exact hn'
      · unfold hres at r ⊢; rw [S.2.2.1, S.2.2.2.1]; exact r
    | succ n ih =>
      intro k h ts hk S hts
      have hk6 : k < 6 := by omega
      refine J.iload1 X dX5_init_156 ?_
      refine J.bipush (v := nI 6) X dX5_init_157 (by decide) ?_
      refine J.icmp_geN (tgt := 175) X dX5_init_159 (by decide) (by omega) (by omega) (fun q9 => absurd q9 (by omega)) (fun _ => ?_)
      refine J.aload0 X dX5_init_162 ?_
      refine J.getf X dX5_init_163 fl_X5_39_X5 (S.o) rfl ?_
      refine J.iload1 X dX5_init_166 ?_
      refine J.iconst (v := -1) X dX5_init_167 (by decide) ?_
      refine J.tw_ts X dX5_init_168 S (rfl) (by omega) (fun h S => ?_)
      refine J.iinc1N (d := 1) X dX5_init_169 (by decide) ?_
      refine J.goto (tgt := 156) X dX5_init_172 (by decide) ?_
      refine ih (k + 1) _ _ (by omega) S (fun i => ?_)
      show (if i = k then (-1 : Int32) else ts i) = _
      by_cases q : i = k
      · rw [if_pos q, if_pos (by omega)]
      · rw [if_neg q, hts i]
        by_cases q2 : i < k
        · rw [if_pos q2, if_pos (by omega)]
        · rw [if_neg q2, if_neg (by omega)]
  exact loop 6 0 _ _ rfl S (fun i => by rw [if_neg (by omega)])
