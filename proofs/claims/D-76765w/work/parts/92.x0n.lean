/-! SegmentedCache: book -/
def gbook (g : GA) (s m q r : Int32) (g' : GA) : Prop := (s = -1 ∧ r = nI 0 ∧ g' = g.wbk []) ∨ (s ≠ -1 ∧ ((¬ tkey s m ∧ r = -1 ∧ g' = g) ∨ (tkey s m ∧ ((¬ (nI 0 ≤ q ∧ q ≤ nI 4) ∧ r = -2 ∧ g' = g) ∨ ((nI 0 ≤ q ∧ q ≤ nI 4) ∧ ((g.bk.length = 8 ∧ r = -4 ∧ g' = g) ∨ (g.bk.length < 8 ∧ ∃ a b k w, a ≤ 3 ∧ b ≤ 99 ∧ s = nI a ∧ m = nI b ∧ k = 100 * a + b ∧ w ≤ 4 ∧ q = nI w ∧ r = nI (g.bk.length + 1) ∧ g' = g.wbk (g.bk ++ [(k, w)]))))))))
theorem x_book {K : JK} {l : Launch} {hE : JIH} {o : Nat} {p : GP} {g : GA} {tz tzi : Nat} (F : JF K) (S : GX K hE o p g tz tzi) {s m q r : Int32} {g' : GA} (hf : gbook g s m q r g') (rm : RM hE tz 10) :
    Ct K l yX0_book wX0_book 12 [.ref o, .int s, .int m, .int q] hE (jRi (fun r0 h' => r0 = r ∧ GX K h' o p g' tz tzi ∧ hres h' ≤ hres hE + 10 ∧ Fr n5 hE h')) jNo := by
  have so := S.o
  obtain ⟨ta, D, S1⟩ := S.cc
  have r8 := S1.rm8 rm
  clear S1
  refine st_X0_book (ls := [some (.ref o), some (.int s), some (.int m), some (.int q)]) F rfl (body := fun M X => ?_)
  refine J.iload1 X dX0_book_0 ?_
  refine J.iconst (v := -1) X dX0_book_1 (by decide) ?_
  rcases hf with ⟨rfl, rfl, rfl⟩ | ⟨hs, hf⟩
  · skip
    refine J.icmp_ne (tgt := 12) X dX0_book_2 (by decide) (fun q9 => absurd q9 (fun z => z rfl)) (fun _ => ?_)
    refine J.aload0 X dX0_book_5 ?_
    refine J.iconst (v := nI 0) X dX0_book_6 (by decide) ?_
    refine J.putf X dX0_book_7 (pl_X0_296_X0 _) so.1 (Nat.le_of_ble_eq_true rfl) rfl rfl ?_
    refine J.iconst (v := nI 0) X dX0_book_10 (by decide) ?_
    refine J.zreturn X dX0_book_11 (rfl) (jRi.of ?_)
    have f1 : Fr (fun z => z = 8) hE (hset hE o (jO 0 (x0O p ((g.wtx g.tx).wbk [])))) := Fr.set so rfl
    have r1 : hres (hset hE o (jO 0 (x0O p ((g.wtx g.tx).wbk [])))) = hres hE := by refine hres_setS so ?_; rfl
    obtain ⟨f, v, b1, b2, b3, b4, b5⟩ := S.gb
    have X2 := S.re f1 (fun z hz => Or.inl hz) g.tx [] (so.same _) (S.gt.fr f1 (by decide)) ⟨f, v, b1.fr f1 (by decide), b2.fr f1 (by decide), fun i q h => (by cases h), fun i b hb => (by obtain ⟨k, z⟩ := b4 i b hb; exact ⟨k, z.fr f1 (by decide)⟩), Nat.zero_le _⟩
    exact ⟨rfl, X2, Nat.le_trans (Nat.le_of_eq r1) (Nat.le_add_right _ _), f1.mono (fun z hz => by show z ≠ 5; omega)⟩
  refine J.icmp_ne (tgt := 12) X dX0_book_2 (by decide) (fun _ => ?_) (fun q9 => absurd q9 (hs))
  refine J.iload1 X dX0_book_12 ?_
  refine J.iload2 X dX0_book_13 ?_
  refine J.callSi X dX0_book_14 lk_X0_129 ce_X0_isKey (x_isKey F s m) (by decide) rfl (fun r0 h2 e _ => ?_)
  obtain ⟨rfl, rfl⟩ := e
  rcases hf with ⟨k1, rfl, rfl⟩ | ⟨k1, hf⟩
  · skip
    refine J.if_neB (tgt := 22) X dX0_book_17 (by decide) (fun q9 => absurd q9 (k1)) (fun _ => ?_)
    refine J.iconst (v := -1) X dX0_book_20 (by decide) ?_
    refine J.zreturn X dX0_book_21 (rfl) (jRi.of ?_)
    exact ⟨rfl, S, by omega, Fr.rf _ _⟩
  refine J.if_neB (tgt := 22) X dX0_book_17 (by decide) (fun _ => ?_) (fun q9 => absurd q9 (fun z => z k1))
  refine J.iload3 X dX0_book_22 ?_
  refine J.iconst (v := nI 0) X dX0_book_23 (by decide) ?_
  refine J.iconst (v := nI 4) X dX0_book_24 (by decide) ?_
  refine J.callSi X dX0_book_25 lk_X0_5 ce_X0_in (x_in F q 0 4) (by decide) rfl (fun r0 h2 e _ => ?_)
  obtain ⟨rfl, rfl⟩ := e
  rcases hf with ⟨k2, rfl, rfl⟩ | ⟨k2, hf⟩
  · skip
    refine J.if_neB (tgt := 34) X dX0_book_28 (by decide) (fun q9 => absurd q9 (k2)) (fun _ => ?_)
    refine J.bipush (v := -2) X dX0_book_31 (by decide) ?_
    refine J.zreturn X dX0_book_33 (rfl) (jRi.of ?_)
    exact ⟨rfl, S, by omega, Fr.rf _ _⟩
  refine J.if_neB (tgt := 34) X dX0_book_28 (by decide) (fun _ => ?_) (fun q9 => absurd q9 (fun z => z k2))
  refine J.aload0 X dX0_book_34 ?_
  refine J.getf X dX0_book_35 fl_X0_296_X0 (so.1) rfl ?_
  refine J.bipush (v := nI 8) X dX0_book_38 (by decide) ?_
  have b8 : g.bk.length ≤ 8 := by obtain ⟨f, v, b1, b2, b3, b4, b5⟩ := S.gb; exact b5
  rcases hf with ⟨k3, rfl, rfl⟩ | ⟨k3, a, b, k, w, ha, hb, rfl, rfl, hk, hw, rfl, rfl, rfl⟩
  · skip
    refine J.icmp_neN (tgt := 46) X dX0_book_40 (by decide) (by omega) (by omega) (fun q9 => absurd q9 (fun z => z k3)) (fun _ => ?_)
    refine J.bipush (v := -4) X dX0_book_43 (by decide) ?_
    refine J.zreturn X dX0_book_45 (rfl) (jRi.of ?_)
    exact ⟨rfl, S, by omega, Fr.rf _ _⟩
  refine J.icmp_neN (tgt := 46) X dX0_book_40 (by decide) (by omega) (by omega) (fun _ => ?_) (fun q9 => absurd q9 (Nat.ne_of_lt k3))
  refine J.aload0 X dX0_book_46 ?_
  refine J.getf X dX0_book_47 fl_X0_45_X0 (so.1) rfl ?_
  refine J.aload0 X dX0_book_50 ?_
  refine J.getf X dX0_book_51 fl_X0_296_X0 (so.1) rfl ?_
  refine J.new (ci := 8) (1) X dX0_book_54 jcl_8 cl_X0_43 rfl ((by show _ + (8 + 2) ≤ _; omega)) ?_
  refine J.dup X dX0_book_57 ?_
  refine J.iload1 X dX0_book_58 ?_
  refine J.iload2 X dX0_book_59 ?_
  refine J.callI X dX0_book_60 lk_X0_133 ce_X8_init (ky_init F (hget_push_new _ _ _) (nI a) (nI b)) (by decide) rfl (fun h1 e _ => ?_)
  subst e
  rw [hset_push_new]
  obtain ⟨S2, gk, f1, e1⟩ := S.key ha hb hk
  show J M (hpush hE 1 (kyO a b)) _ _ _
  generalize hpush hE 1 (kyO a b) = h1 at S2 f1 e1 gk
  generalize hnew hE = kk at gk
  obtain ⟨f, v, b1, b2, b3, b4, b5⟩ := S2.gb
  have so2 := S2.o
  refine J.aastS (t := 7) X dX0_book_63 b1.1 gk.2.1 jcl_8 rfl rfl k3 ?_
  have n1 : p.bk ≠ o := b1.apT so2 (by decide)
  have n2 : p.bk ≠ p.bw := b1.apT b2 (by decide)
  have n3 : p.bw ≠ o := b2.apT so2 (by decide)
  have c1 := b1.same (jAR K 7 8 (va_up f g.bk.length (some kk)))
  have c2 := b2.ne (jAR K 7 8 (va_up f g.bk.length (some kk))) n2
  have so3 := so2.ne (jAR K 7 8 (va_up f g.bk.length (some kk))) n1
  have f2 : Fr (fun z => z = 8 ∨ z = 61 ∨ z = 62) h1 (hset h1 p.bk (jAR K 7 8 (va_up f g.bk.length (some kk)))) := Fr.set b1 (Or.inr (Or.inl rfl))
  have r2 : hres (hset h1 p.bk (jAR K 7 8 (va_up f g.bk.length (some kk)))) = hres h1 := by refine hres_setS b1 ?_; rfl
  generalize hset h1 p.bk (jAR K 7 8 (va_up f g.bk.length (some kk))) = h2 at c1 c2 so3 f2 r2
  refine J.aload0 X dX0_book_64 ?_
  refine J.getf X dX0_book_65 fl_X0_49_X0 (so3.1) rfl ?_
  refine J.aload0 X dX0_book_68 ?_
  refine J.dup X dX0_book_69 ?_
  refine J.getf X dX0_book_70 fl_X0_296_X0 (so3.1) rfl ?_
  refine J.dup_x1 X dX0_book_73 ?_
  refine J.iconst (v := nI 1) X dX0_book_74 (by decide) ?_
  refine J.iaddN X dX0_book_75 ?_
  refine J.putf X dX0_book_76 (pl_X0_296_X0 _) so3.1 (Nat.le_of_ble_eq_true rfl) rfl rfl ?_
  have el : (g.bk ++ [(k, w)]).length = g.bk.length + 1 := by rw [List.length_append]; rfl
  have eO : jO 0 ((x0O p g).set 8 (.int (nI (g.bk.length + 1)))) = jO 0 (x0O p ((g.wtx g.tx).wbk (g.bk ++ [(k, w)]))) := by
    show _ = jO 0 [.ref p.c, .ref p.b3, .ref p.b4, .ref p.tx, .int (nI g.tx.length), .ref p.tl, .ref p.bk, .ref p.bw, .int (nI (g.bk ++ [(k, w)]).length), .ref p.tp, .ref p.ci, .ref p.ibk, .ref p.ibw, .int (nI g.ib.length), .int (nI g.hi)]
    rw [el]
    rfl
  rw [eO]
  have so4 := so3.same (jO 0 (x0O p ((g.wtx g.tx).wbk (g.bk ++ [(k, w)]))))
  have c3 := c1.ne (jO 0 (x0O p ((g.wtx g.tx).wbk (g.bk ++ [(k, w)])))) n1.symm
  have c4 := c2.ne (jO 0 (x0O p ((g.wtx g.tx).wbk (g.bk ++ [(k, w)])))) n3.symm
  have f3 : Fr (fun z => z = 8 ∨ z = 61 ∨ z = 62) h2 (hset h2 o (jO 0 (x0O p ((g.wtx g.tx).wbk (g.bk ++ [(k, w)]))))) := Fr.set so3 (Or.inl rfl)
  have r3 : hres (hset h2 o (jO 0 (x0O p ((g.wtx g.tx).wbk (g.bk ++ [(k, w)]))))) = hres h2 := by refine hres_setS so3 ?_; rfl
  generalize hset h2 o (jO 0 (x0O p ((g.wtx g.tx).wbk (g.bk ++ [(k, w)])))) = h3 at so4 c3 c4 f3 r3
  refine J.iload3 X dX0_book_79 ?_
  refine J.iast X dX0_book_80 c4.1 rfl k3 ?_
  have so5 := so4.ne (jA K 0 8 (upd v g.bk.length (nI w))) n3
  have c5 := c3.ne (jA K 0 8 (upd v g.bk.length (nI w))) n2.symm
  have c6 := c4.same (jA K 0 8 (upd v g.bk.length (nI w)))
  have f4 : Fr (fun z => z = 8 ∨ z = 61 ∨ z = 62) h3 (hset h3 p.bw (jA K 0 8 (upd v g.bk.length (nI w)))) := Fr.set c4 (Or.inr (Or.inr rfl))
  have r4 : hres (hset h3 p.bw (jA K 0 8 (upd v g.bk.length (nI w)))) = hres h3 := by refine hres_setS c4 ?_; rfl
  generalize hset h3 p.bw (jA K 0 8 (upd v g.bk.length (nI w))) = h4 at so5 c5 c6 f4 r4
  have ff := (f2.tr f3).tr f4
  have gb : GB K h4 61 p.bk p.bw (g.bk ++ [(k, w)]) := by
    refine ⟨_, _, c5, c6, fun i z hz => ?_, fun i z hz => ?_, by omega⟩
    · rw [upd_at, va_up_at]
      by_cases e : i = g.bk.length
      · rw [if_pos e, if_pos e]
        rw [e, List.getElem?_append_right (Nat.le_refl _), Nat.sub_self] at hz
        cases hz
        exact ⟨rfl, hw, kk, rfl, gk.fr ff (by omega)⟩
      · rw [if_neg e, if_neg e]
        have hl := (List.getElem?_eq_some_iff.mp hz).1
        rw [List.getElem?_append_left (by omega)] at hz
        obtain ⟨z1, z2, b', z3, z4⟩ := b3 i z hz
        exact ⟨z1, z2, b', z3, z4.fr ff (by omega)⟩
    · rw [va_up_at] at hz
      split at hz
      · cases hz
        exact ⟨k, gk.fr ff (by omega)⟩
      · obtain ⟨k', z'⟩ := b4 i z hz
        exact ⟨k', z'.fr ff (by omega)⟩
  have X2 := S2.re ff (fun z hz => by omega) g.tx (g.bk ++ [(k, w)]) so5 (S2.gt.fr ff (by omega)) gb
  refine J.aload0 X dX0_book_81 ?_
  refine J.getf X dX0_book_82 fl_X0_296_X0 (so5.1) rfl ?_
  refine J.zreturn X dX0_book_85 (rfl) (jRi.of ?_)
  exact ⟨by rw [← el], X2, by omega, f1.tr (ff.mono (fun z hz => by show z ≠ 5; omega))⟩
