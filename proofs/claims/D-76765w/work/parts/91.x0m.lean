/-! SegmentedCache: feed -/
theorem byte_n : ∀ v, v < 128 → vp_nar .byte ((nI v).toInt8.toInt32) = nI v := by decide +kernel
def gfeed (g : GA) (s r : Int32) (g' : GA) : Prop := (¬ (nI 0 ≤ s ∧ s ≤ nI 127) ∧ r = -2 ∧ g' = g) ∨ ((nI 0 ≤ s ∧ s ≤ nI 127) ∧ g.tx.length = 100 ∧ r = -4 ∧ g' = g) ∨ ((nI 0 ≤ s ∧ s ≤ nI 127) ∧ g.tx.length < 100 ∧ ∃ v, v < 128 ∧ s = nI v ∧ r = nI (g.tx.length + 1) ∧ g' = g.wtx (g.tx ++ [v]))
theorem x_feed {K : JK} {l : Launch} {hE : JIH} {o : Nat} {p : GP} {g : GA} {tz tzi : Nat} (F : JF K) (S : GX K hE o p g tz tzi) {s r : Int32} {g' : GA} (hf : gfeed g s r g') :
    Ct K l yX0_feed wX0_feed 12 [.ref o, .int s] hE (jRi (fun r0 h' => r0 = r ∧ GX K h' o p g' tz tzi ∧ hres h' = hres hE ∧ Fr n5 hE h')) jNo := by
  have so := S.o
  obtain ⟨f, c1, h1, h100⟩ := S.gt
  have gb := S.gb
  refine st_X0_feed (ls := [some (.ref o), some (.int s)]) F rfl (body := fun M X => ?_)
  refine J.iload1 X dX0_feed_0 ?_
  refine J.iconst (v := nI 0) X dX0_feed_1 (by decide) ?_
  refine J.bipush (v := nI 127) X dX0_feed_2 (by decide) ?_
  refine J.callSi X dX0_feed_4 lk_X0_5 ce_X0_in (x_in F s 0 127) (by decide) rfl (fun r0 h2 e _ => ?_)
  obtain ⟨rfl, rfl⟩ := e
  rcases hf with ⟨q, rfl, rfl⟩ | hf
  · skip
    refine J.if_neB (tgt := 13) X dX0_feed_7 (by decide) (fun q9 => absurd q9 (q)) (fun _ => ?_)
    refine J.bipush (v := -2) X dX0_feed_10 (by decide) ?_
    refine J.zreturn X dX0_feed_12 (rfl) (jRi.of ?_)
    exact ⟨rfl, S, rfl, Fr.rf _ _⟩
  have q : nI 0 ≤ s ∧ s ≤ nI 127 := by rcases hf with h | h <;> exact h.1
  refine J.if_neB (tgt := 13) X dX0_feed_7 (by decide) (fun _ => ?_) (fun q9 => absurd q9 (fun z => z q))
  refine J.aload0 X dX0_feed_13 ?_
  refine J.getf X dX0_feed_14 fl_X0_229_X0 (so.1) rfl ?_
  refine J.bipush (v := nI 100) X dX0_feed_17 (by decide) ?_
  rcases hf with ⟨-, q2, rfl, rfl⟩ | ⟨-, q2, v, hv, rfl, rfl, rfl⟩
  · skip
    refine J.icmp_neN (tgt := 25) X dX0_feed_19 (by decide) (by omega) (by omega) (fun q9 => absurd q9 (fun z => z q2)) (fun _ => ?_)
    refine J.bipush (v := -4) X dX0_feed_22 (by decide) ?_
    refine J.zreturn X dX0_feed_24 (rfl) (jRi.of ?_)
    exact ⟨rfl, S, rfl, Fr.rf _ _⟩
  have hne : o ≠ p.tx := so.apT c1 (by decide)
  refine J.icmp_neN (tgt := 25) X dX0_feed_19 (by decide) (by omega) (by omega) (fun _ => ?_) (fun q9 => absurd q9 (Nat.ne_of_lt q2))
  refine J.aload0 X dX0_feed_25 ?_
  refine J.getf X dX0_feed_26 fl_X0_32_X0 (so.1) rfl ?_
  refine J.aload0 X dX0_feed_29 ?_
  refine J.dup X dX0_feed_30 ?_
  refine J.getf X dX0_feed_31 fl_X0_229_X0 (so.1) rfl ?_
  refine J.dup_x1 X dX0_feed_34 ?_
  refine J.iconst (v := nI 1) X dX0_feed_35 (by decide) ?_
  refine J.iaddN X dX0_feed_36 ?_
  refine J.putf X dX0_feed_37 (pl_X0_229_X0 _) so.1 (Nat.le_of_ble_eq_true rfl) rfl rfl ?_
  have so2 := so.same (jO 0 (x0O p ((g.wtx (g.tx ++ [v])).wbk g.bk)))
  have el : (g.tx ++ [v]).length = g.tx.length + 1 := by rw [List.length_append]; rfl
  have eO : jO 0 ((x0O p g).set 4 (.int (nI (g.tx.length + 1)))) = jO 0 (x0O p ((g.wtx (g.tx ++ [v])).wbk g.bk)) := by
    show _ = jO 0 [.ref p.c, .ref p.b3, .ref p.b4, .ref p.tx, .int (nI (g.tx ++ [v]).length), .ref p.tl, .ref p.bk, .ref p.bw, .int (nI g.bk.length), .ref p.tp, .ref p.ci, .ref p.ibk, .ref p.ibw, .int (nI g.ib.length), .int (nI g.hi)]
    rw [el]
    rfl
  rw [eO]
  have c2 := c1.ne (jO 0 (x0O p ((g.wtx (g.tx ++ [v])).wbk g.bk))) hne
  have f1 : Fr (fun z => z = 8 ∨ z = 60) hE (hset hE o (jO 0 (x0O p ((g.wtx (g.tx ++ [v])).wbk g.bk)))) := Fr.set so (Or.inl rfl)
  have r1 : hres (hset hE o (jO 0 (x0O p ((g.wtx (g.tx ++ [v])).wbk g.bk)))) = hres hE := by refine hres_setS so ?_; rfl
  generalize hset hE o (jO 0 (x0O p ((g.wtx (g.tx ++ [v])).wbk g.bk))) = h1' at so2 c2 f1 r1
  refine J.iload1 X dX0_feed_40 ?_
  refine J.i2b X dX0_feed_41 ?_
  refine J.bast X dX0_feed_42 c2.1 rfl q2 ?_
  rw [byte_n v hv]
  have so3 := so2.ne (jA K 1 100 (upd f g.tx.length (nI v))) hne.symm
  have c3 := c2.same (jA K 1 100 (upd f g.tx.length (nI v)))
  have f2 : Fr (fun z => z = 8 ∨ z = 60) h1' (hset h1' p.tx (jA K 1 100 (upd f g.tx.length (nI v)))) := Fr.set c2 (Or.inr rfl)
  have r2 : hres (hset h1' p.tx (jA K 1 100 (upd f g.tx.length (nI v)))) = hres h1' := by refine hres_setS c2 ?_; rfl
  generalize hset h1' p.tx (jA K 1 100 (upd f g.tx.length (nI v))) = h2' at so3 c3 f2 r2
  have ff := f1.tr f2
  have gt : GT K h2' p.tx (g.tx ++ [v]) := by
    refine ⟨_, c3, fun i w hw => ?_, by omega⟩
    rw [upd_at]
    by_cases e : i = g.tx.length
    · rw [if_pos e]
      rw [e, List.getElem?_append_right (Nat.le_refl _), Nat.sub_self] at hw
      cases hw
      exact ⟨rfl, hv⟩
    · rw [if_neg e]
      have hl := (List.getElem?_eq_some_iff.mp hw).1
      rw [List.getElem?_append_left (by omega)] at hw
      exact h1 i w hw
  have X2 := S.re ff (fun z hz => by omega) (g.tx ++ [v]) g.bk so3 gt (gb.fr ff (by omega) (by omega) (by omega))
  refine J.aload0 X dX0_feed_43 ?_
  refine J.getf X dX0_feed_44 fl_X0_229_X0 (so3.1) rfl ?_
  refine J.zreturn X dX0_feed_47 (rfl) (jRi.of ?_)
  exact ⟨by rw [← el], X2, by omega, ff.mono (fun z hz => by show z ≠ 5; omega)⟩
