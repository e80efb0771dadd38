/-! SegmentedCache: of, key, told, count, things -/
def aof (s : AS) (k j : Nat) : Int32 := if j = 0 then nI (awhere s k) else if j = 1 then (if awhere s k = 0 then -5 else nI (s.2.2 0 k)) else if j = 6 then (if awhere s k = 0 then -5 else nI ((s.1 (awhere s k)).idxOf k)) else if k ∈ s.1 1 ∨ k ∈ s.1 2 then nI (s.2.2 (j - 1) k) else -5
def gof (g : GA) (s m a : Int32) (r : Int32) : Prop :=
  (¬ (tkey s m ∧ nI 0 ≤ a ∧ a ≤ nI 6) ∧ r = -1) ∨ (tkey s m ∧ ∃ x b k j, x ≤ 3 ∧ b ≤ 99 ∧ s = nI x ∧ m = nI b ∧ k = 100 * x + b ∧ j ≤ 6 ∧ a = nI j ∧ r = aof g.x.1 k j)
theorem ofThing0 {K : JK} {l : Launch} {hE : JIH} (F : JF K) {o : Nat} {a : Int32} :
    Ct K l yX0_ofThing wX0_ofThing 0 [.ref o, .null, .int a] hE (jRi (fun r h' => r = -5 ∧ hE = h')) jNo := by
  refine st_X0_ofThing (ls := [some (.ref o), some (.null), some (.int a)]) F rfl (body := fun M X => ?_)
  refine J.aload1 X dX0_ofThing_0 ?_
  refine J.ifnonnullN (a := 0) (tgt := 7) X dX0_ofThing_1 (by decide) ?_
  refine J.bipush (v := -5) X dX0_ofThing_4 (by decide) ?_
  refine J.zreturn X dX0_ofThing_6 (rfl) (jRi.of ?_)
  exact ⟨rfl, rfl⟩
theorem ofThing1 {K : JK} {l : Launch} {hE : JIH} (F : JF K) {o t j k : Nat} {s : AS} (ct : hget hE t = some (jO 7 (thO s k))) (h4 : s.2.2 4 k ≤ 1) (h2 : 2 ≤ j) (h5 : j ≤ 5) :
    Ct K l yX0_ofThing wX0_ofThing 0 [.ref o, .ref t, .int (nI j)] hE (jRi (fun r h' => r = nI (s.2.2 (j - 1) k) ∧ hE = h')) jNo := by
  refine st_X0_ofThing (ls := [some (.ref o), some (.ref t), some (.int (nI j))]) F rfl (body := fun M X => ?_)
  refine J.aload1 X dX0_ofThing_0 ?_
  refine J.ifnonnullR (tgt := 7) X dX0_ofThing_1 (by decide) ?_
  refine J.iload2 X dX0_ofThing_7 ?_
  rcases (show j = 2 ∨ j = 3 ∨ j = 4 ∨ j = 5 by omega) with rfl | rfl | rfl | rfl
  · skip
    refine J.tsIn (off := 37) (tgt := 45) X dX0_ofThing_8 (by decide) (by decide) (by decide) (by decide) ?_
    refine J.aload1 X dX0_ofThing_45 ?_
    refine J.getf X dX0_ofThing_46 fl_X0_163_X7 (ct) rfl ?_
    refine J.zreturn X dX0_ofThing_49 (rfl) (jRi.of ?_)
    exact ⟨rfl, rfl⟩
  · skip
    refine J.tsIn (off := 42) (tgt := 50) X dX0_ofThing_8 (by decide) (by decide) (by decide) (by decide) ?_
    refine J.aload1 X dX0_ofThing_50 ?_
    refine J.getf X dX0_ofThing_51 fl_X0_166_X7 (ct) rfl ?_
    refine J.zreturn X dX0_ofThing_54 (rfl) (jRi.of ?_)
    exact ⟨rfl, rfl⟩
  · skip
    refine J.tsIn (off := 47) (tgt := 55) X dX0_ofThing_8 (by decide) (by decide) (by decide) (by decide) ?_
    refine J.aload1 X dX0_ofThing_55 ?_
    refine J.getf X dX0_ofThing_56 fl_X0_169_X7 (ct) rfl ?_
    refine J.zreturn X dX0_ofThing_59 (rfl) (jRi.of ?_)
    exact ⟨rfl, rfl⟩
  · refine J.tsOut (tgt := 60) X dX0_ofThing_8 (by decide) (by decide) ?_
    refine J.aload1 X dX0_ofThing_60 ?_
    refine J.getf X dX0_ofThing_61 fl_X0_158_X7 (ct) rfl ?_
    refine J.if_eqN (tgt := 71) X dX0_ofThing_64 (by decide) (by omega) (fun c1 => ?_) (fun c1 => ?_)
    · skip
      refine J.iconst (v := nI 0) X dX0_ofThing_71 (by decide) ?_
      refine J.zreturn X dX0_ofThing_72 (rfl) (jRi.of ?_)
      exact ⟨by rw [show s.2.2 (5 - 1) k = 0 from c1], rfl⟩
    · skip
      refine J.iconst (v := nI 1) X dX0_ofThing_67 (by decide) ?_
      refine J.goto (tgt := 72) X dX0_ofThing_68 (by decide) ?_
      refine J.zreturn X dX0_ofThing_72 (rfl) (jRi.of ?_)
      exact ⟨by rw [show s.2.2 (5 - 1) k = 1 by show s.2.2 4 k = 1; omega], rfl⟩
theorem idx_split {l1 l2 : List Nat} {k : Nat} (h : k ∉ l1) : (l1 ++ k :: l2).idxOf k = l1.length := by
  rw [List.idxOf_append, if_neg h, List.idxOf_cons_self, Nat.zero_add]
theorem x_of {K : JK} {l : Launch} {hE : JIH} {o : Nat} {p : GP} {g : GA} {tz tzi : Nat}  (F : JF K) (S : GX K hE o p g tz tzi) {s m a r : Int32} (hf : gof g s m a r) (rm : RM hE tz 33) :
    Ct K l yX0_of wX0_of 12 [.ref o, .int s, .int m, .int a] hE (jRi (fun r0 h' => r0 = r ∧ GX K h' o p g tz tzi ∧ hres h' ≤ hres hE + 33 ∧ Fr n5 hE h')) jNo := by
  refine st_X0_of (ls := [some (.ref o), some (.int s), some (.int m), some (.int a), none, none]) F rfl (body := fun M X => ?_)
  have so := S.o.1
  refine J.iload1 X dX0_of_0 ?_
  refine J.iload2 X dX0_of_1 ?_
  refine J.callSi X dX0_of_2 lk_X0_129 ce_X0_isKey (x_isKey F s m) (by decide) rfl (fun r0 h' e _ => ?_)
  obtain ⟨rfl, rfl⟩ := e
  by_cases k1 : tkey s m
  case neg =>
    have hr : r = -1 := by
      rcases hf with ⟨-, e⟩ | ⟨q, -⟩
      · exact e
      · exact absurd q k1
    refine J.if_neB (tgt := 10) X dX0_of_5 (by decide) (fun q9 => absurd q9 (k1)) (fun _ => ?_)
    refine J.iconst (v := -1) X dX0_of_8 (by decide) ?_
    refine J.zreturn X dX0_of_9 (rfl) (jRi.of ?_)
    exact ⟨hr.symm, S, by omega, Fr.rf _ _⟩
  obtain ⟨x, b, hx, hb, rfl, rfl⟩ := tkey_nat k1
  have hB := S.bc
  refine J.if_neB (tgt := 10) X dX0_of_5 (by decide) (fun _ => ?_) (fun q9 => absurd q9 (fun z => z k1))
  obtain ⟨ta, D, S1⟩ := S.cc
  have r8 := S1.rm8 rm
  refine J.new (ci := 8) (1) X dX0_of_10 jcl_8 cl_X0_43 rfl ((by show _ + (8 + 2) ≤ _; omega)) ?_
  refine J.dup X dX0_of_13 ?_
  refine J.iload1 X dX0_of_14 ?_
  refine J.iload2 X dX0_of_15 ?_
  refine J.callI X dX0_of_16 lk_X0_133 ce_X8_init (ky_init F (hget_push_new _ _ _) (nI x) (nI b)) (by decide) rfl (fun h1 e _ => ?_)
  subst e
  rw [hset_push_new]
  obtain ⟨S2, gk, f1, e1⟩ := S.key hx hb rfl
  show J M (hpush hE 1 (kyO x b)) _ _ _
  generalize hpush hE 1 (kyO x b) = h1 at S2 f1 e1 gk
  generalize hnew hE = kk at gk
  clear S1
  obtain ⟨ta, D, S1⟩ := S2.cc
  have co := S1.o.1
  have hA := S1.aw
  have so1 := S2.o.1
  refine J.astore4 X dX0_of_19 ?_
  refine J.aload0 X dX0_of_21 ?_
  refine J.getf X dX0_of_22 fl_X0_18_X0 (so1) rfl ?_
  refine J.aload4 X dX0_of_25 ?_
  refine J.callVi X dX0_of_27 lk_X0_172_X1 ce_X1_where (k_where F S1 gk) (by decide) rfl (co) rfl (fun r0 h2 e _ => ?_)
  obtain ⟨rfl, rfl⟩ := e
  refine J.istore5 X dX0_of_30 ?_
  refine J.iload3 X dX0_of_32 ?_
  rcases hf with ⟨q, rfl⟩ | ⟨-, x', b', k, j, hx', hb', e3, e4, hk, hj, rfl, rfl⟩
  · skip
    refine J.tsOut (tgt := 153) X dX0_of_33 (ts_out (m := 6) (by decide) (fun z => q ⟨k1, z⟩)) (by decide) ?_
    refine J.iconst (v := -1) X dX0_of_153 (by decide) ?_
    refine J.zreturn X dX0_of_154 (rfl) (jRi.of ?_)
    exact ⟨rfl, S2, by omega, f1⟩
  have exb : x' = x ∧ b' = b := ⟨nI_inj (by omega) (by omega) e3.symm, nI_inj (by omega) (by omega) e4.symm⟩
  obtain ⟨rfl, rfl⟩ := exb
  rw [← hk] at gk ⊢
  have a4 := awhere_le g.x.1 k
  rcases (show j = 0 ∨ j = 1 ∨ j = 6 ∨ (2 ≤ j ∧ j ≤ 5) by omega) with rfl | rfl | rfl | ⟨j2, j5⟩
  · skip
    refine J.tsIn (off := 43) (tgt := 76) X dX0_of_33 (by decide) (by decide) (by decide) (by decide) ?_
    refine J.iload5 X dX0_of_76 ?_
    refine J.zreturn X dX0_of_78 (rfl) (jRi.of ?_)
    exact ⟨rfl, S2, by omega, f1⟩
  · skip
    refine J.tsIn (off := 46) (tgt := 79) X dX0_of_33 (by decide) (by decide) (by decide) (by decide) ?_
    refine J.iload5 X dX0_of_79 ?_
    refine J.if_neN (tgt := 89) X dX0_of_81 (by decide) (by omega) (fun c0 => ?_) (fun c0 => ?_)
    · skip
      have c0' : awhere g.x.1 k ≠ 0 := c0
      obtain ⟨hi, hki⟩ := awhere_mem c0'
      have kD := S1.dm hi hki
      have ct := S1.th kD
      have qo := S1.q hi
      obtain ⟨fs, ob⟩ := S1.mp hi
      obtain ⟨ea, ka, n, mc, L⟩ := S1.lm hi
      refine J.aload0 X dX0_of_89 ?_
      refine J.getf X dX0_of_90 fl_X0_18_X0 (so1) rfl ?_
      refine J.iload5 X dX0_of_93 ?_
      refine J.callVa X dX0_of_95 lk_X0_102_X1 ce_X1_queue (k_queue F S1 hi) (by decide) rfl (co) rfl (fun r0 h2 e _ => ?_)
      obtain ⟨rfl, rfl⟩ := e
      refine J.getf X dX0_of_98 fl_X0_175_X2 (qo.1) rfl ?_
      refine J.aload4 X dX0_of_101 ?_
      refine J.callVa X dX0_of_103 lk_X0_179_J2 ce_J2_get (c_get F L gk) (by decide) rfl (ob.1) rfl (fun r0 h2 e _ => ?_)
      obtain ⟨rfl, rfl⟩ := e
      rw [if_pos hki]
      refine J.castS X dX0_of_106 cl_X0_147 jcl_7 (ct.1) ?_
      refine J.getf X dX0_of_109 fl_X0_162_X7 (ct.1) rfl ?_
      refine J.zreturn X dX0_of_112 (rfl) (jRi.of ?_)
      refine ⟨?_, S2, by omega, f1⟩
      show _ = if awhere g.x.1 k = 0 then (-5 : Int32) else nI (g.x.1.2.2 0 k)
      rw [if_neg c0']
    · skip
      have c0' : awhere g.x.1 k = 0 := c0
      refine J.bipush (v := -5) X dX0_of_84 (by decide) ?_
      refine J.goto (tgt := 112) X dX0_of_86 (by decide) ?_
      refine J.zreturn X dX0_of_112 (rfl) (jRi.of ?_)
      refine ⟨?_, S2, by omega, f1⟩
      show _ = if awhere g.x.1 k = 0 then (-5 : Int32) else nI (g.x.1.2.2 0 k)
      rw [if_pos c0']
  · skip
    refine J.tsIn (off := 95) (tgt := 128) X dX0_of_33 (by decide) (by decide) (by decide) (by decide) ?_
    refine J.iload5 X dX0_of_128 ?_
    refine J.if_neN (tgt := 138) X dX0_of_130 (by decide) (by omega) (fun c0 => ?_) (fun c0 => ?_)
    · skip
      have c0' : awhere g.x.1 k ≠ 0 := c0
      obtain ⟨hi, hki⟩ := awhere_mem c0'
      have qo := S1.q hi
      have hn := hA.2.1 _ hi
      obtain ⟨l1, l2, el⟩ := List.append_of_mem hki
      have S1' := S1
      obtain ⟨P, eP, R, A, hG⟩ := S1
      have rm2 : RM h1 tz 23 := by unfold RM at rm ⊢; omega
      refine J.aload0 X dX0_of_138 ?_
      refine J.getf X dX0_of_139 fl_X0_18_X0 (so1) rfl ?_
      refine J.iload5 X dX0_of_142 ?_
      refine J.callVa X dX0_of_144 lk_X0_102_X1 ce_X1_queue (k_queue F S1' hi) (by decide) rfl (co) rfl (fun r0 h2 e _ => ?_)
      obtain ⟨rfl, rfl⟩ := e
      refine J.aload4 X dX0_of_147 ?_
      refine J.callVi X dX0_of_149 lk_X0_189_X2 ce_X2_placeOf (q_placeOf F R hi gk el hn rm2) (by decide) rfl (qo.1) rfl (fun r0 h3 e _ => ?_)
      obtain ⟨rfl, R2, cf⟩ := e
      refine J.zreturn X dX0_of_152 (rfl) (jRi.of ?_)
      refine ⟨?_, S2.up0 (x' := g.x) cf.1.1 (fun z hz => Or.inl hz) ⟨ta, D, P, eP, R2, A, hG⟩ hB, ?_, f1.tr (cf.1.1.mono (fun z hz => CT.n5 hz (Or.inl rfl)))⟩
      · show _ = if awhere g.x.1 k = 0 then (-5 : Int32) else nI ((g.x.1.1 (awhere g.x.1 k)).idxOf k)
        rw [if_neg c0', el]
        rw [el] at hn
        rw [idx_split (fun z => (List.nodup_append.mp hn).2.2 k z k List.mem_cons_self rfl)]
      · have := cf.2
        omega
    · skip
      have c0' : awhere g.x.1 k = 0 := c0
      refine J.bipush (v := -5) X dX0_of_133 (by decide) ?_
      refine J.goto (tgt := 152) X dX0_of_135 (by decide) ?_
      refine J.zreturn X dX0_of_152 (rfl) (jRi.of ?_)
      refine ⟨?_, S2, by omega, f1⟩
      show _ = if awhere g.x.1 k = 0 then (-5 : Int32) else nI ((g.x.1.1 (awhere g.x.1 k)).idxOf k)
      rw [if_pos c0']
  · have hts : J M h1 113 [some (.ref o), some (.int (nI x')), some (.int (nI b')), some (.int (nI j)), some (.ref kk), some (.int (nI (awhere g.x.1 k)))] [] := by
      refine J.aload0 X dX0_of_113 ?_
      refine J.aload0 X dX0_of_114 ?_
      refine J.getf X dX0_of_115 fl_X0_18_X0 (so1) rfl ?_
      refine J.aload4 X dX0_of_118 ?_
      have ef : aof g.x.1 k j = if k ∈ g.x.1.1 1 ∨ k ∈ g.x.1.1 2 then nI (g.x.1.2.2 (j - 1) k) else -5 := by
        unfold aof
        rw [if_neg (by omega), if_neg (by omega), if_neg (by omega)]
      by_cases hn : k ∈ g.x.1.1 1 ∨ k ∈ g.x.1.1 2
      · have hi : ∃ i, aq i ∧ k ∈ g.x.1.1 i := hn.elim (fun z => ⟨1, aq1, z⟩) (fun z => ⟨2, aq2, z⟩)
        obtain ⟨i, hi, hki⟩ := hi
        have ct := S1.th (S1.dm hi hki)
        have ok := hA.aok hi hki
        refine J.callVNa X dX0_of_120 lk_X0_155_X1 ce_X1_thing (k_thing F S1 gk) (by decide) rfl (co) rfl (fun r0 h2 e _ => ?_)
        obtain ⟨rfl, rfl⟩ := e
        rw [if_pos hn]
        refine J.iload3 X dX0_of_123 ?_
        refine J.callVi X dX0_of_124 lk_X0_185_X0 ce_X0_ofThing (ofThing1 (o := o) F ct.1 ok.2.2.2.2.2.1 j2 j5) (by decide) rfl (so1) rfl (fun r0 h2 e _ => ?_)
        obtain ⟨rfl, rfl⟩ := e
        refine J.zreturn X dX0_of_127 (rfl) (jRi.of ?_)
        refine ⟨?_, S2, by omega, f1⟩
        rw [ef, if_pos hn]
      · refine J.callVNa X dX0_of_120 lk_X0_155_X1 ce_X1_thing (k_thing F S1 gk) (by decide) rfl (co) rfl (fun r0 h2 e _ => ?_)
        obtain ⟨rfl, rfl⟩ := e
        rw [if_neg hn]
        refine J.iload3 X dX0_of_123 ?_
        refine J.callVi X dX0_of_124 lk_X0_185_X0 ce_X0_ofThing (ofThing0 (o := o) F) (by decide) rfl (so1) rfl (fun r0 h2 e _ => ?_)
        obtain ⟨rfl, rfl⟩ := e
        refine J.zreturn X dX0_of_127 (rfl) (jRi.of ?_)
        refine ⟨?_, S2, by omega, f1⟩
        rw [ef, if_neg hn]
    rcases (show j = 2 ∨ j = 3 ∨ j = 4 ∨ j = 5 by omega) with rfl | rfl | rfl | rfl
    · skip
      refine J.tsIn (off := 80) (tgt := 113) X dX0_of_33 (by decide) (by decide) (by decide) (by decide) ?_
      exact hts
    · skip
      refine J.tsIn (off := 80) (tgt := 113) X dX0_of_33 (by decide) (by decide) (by decide) (by decide) ?_
      exact hts
    · skip
      refine J.tsIn (off := 80) (tgt := 113) X dX0_of_33 (by decide) (by decide) (by decide) (by decide) ?_
      exact hts
    · refine J.tsIn (off := 80) (tgt := 113) X dX0_of_33 (by decide) (by decide) (by decide) (by decide) ?_
      exact hts
