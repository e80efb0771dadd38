/-! SegmentedCache: trace -/
theorem rd_init {K : JK} {l : Launch} {hE : JIH} (F : JF K) {q tx n tt : Nat} (hf : hc hE 9 q (jO 9 [.null, .int 0, .int 0, .null])) (htt : tt ≠ 9) (hr : hres hE + 12 ≤ jRL) :
    Ct K l yX9_init wX9_init 5 [.ref q, .ref tx, .int (nI n)] hE (jRv (fun h' => ∃ ll, hc h' 9 q (rdO tx n 0 ll) ∧ TR tt h' ll [] ∧ Fr (fun z => z = 9) hE h' ∧ hres h' = hres hE + 12)) jNo := by
  refine st_X9_init (ls := [some (.ref q), some (.ref tx), some (.int (nI n))]) F rfl (body := fun M X => ?_)
  refine J.aload0 X dX9_init_0 ?_
  refine J.objInit X dX9_init_1 lk_X9_3 (by decide) ?_
  refine J.aload0 X dX9_init_4 ?_
  refine J.new (ci := 16) (tt) X dX9_init_5 jcl_16 cl_X9_9 rfl ((by show _ + (8 + 4) ≤ _; omega)) ?_
  show J M (hpush hE tt (jO 16 [.int 0, .int 0, .null, .null])) _ _ _
  have c1 := hf.push tt (jO 16 [.int 0, .int 0, .null, .null])
  have cl := hc.new hE tt (jO 16 [.int 0, .int 0, .null, .null])
  have f1 : Fr (fun z => z = 9) hE (hpush hE tt (jO 16 [.int 0, .int 0, .null, .null])) := Fr.push _ _ _ _
  have r1 : hres (hpush hE tt (jO 16 [.int 0, .int 0, .null, .null])) = hres hE + 12 := hres_push _ _ _
  generalize hpush hE tt (jO 16 [.int 0, .int 0, .null, .null]) = h1 at c1 cl f1 r1
  generalize hnew hE = ll at cl
  refine J.dup X dX9_init_8 ?_
  refine J.callI X dX9_init_9 lk_X9_11 ce_J7_init (ll_init F cl) (by decide) rfl (fun h2 e _ => ?_)
  obtain ⟨L, rfl⟩ := e
  refine J.putf X dX9_init_12 pl_X9_12_X9 c1.1 (Nat.le_of_ble_eq_true rfl) rfl rfl ?_
  have c2 := c1.same (jO 9 [.null, .int 0, .int 0, .ref ll])
  have f2 : Fr (fun z => z = 9) h1 (hset h1 q (jO 9 [.null, .int 0, .int 0, .ref ll])) := Fr.set c1 rfl
  have r2 : hres (hset h1 q (jO 9 [.null, .int 0, .int 0, .ref ll])) = hres h1 := by refine hres_setS c1 ?_; rfl
  show J M (hset h1 q (jO 9 [.null, .int 0, .int 0, .ref ll])) _ _ _
  generalize hset h1 q (jO 9 [.null, .int 0, .int 0, .ref ll]) = h2 at c2 f2 r2
  refine J.aload0 X dX9_init_15 ?_
  refine J.aload1 X dX9_init_16 ?_
  refine J.putf X dX9_init_17 pl_X9_18_X9 c2.1 (Nat.le_of_ble_eq_true rfl) rfl rfl ?_
  have c3 := c2.same (jO 9 [.ref tx, .int 0, .int 0, .ref ll])
  have f3 : Fr (fun z => z = 9) h2 (hset h2 q (jO 9 [.ref tx, .int 0, .int 0, .ref ll])) := Fr.set c2 rfl
  have r3 : hres (hset h2 q (jO 9 [.ref tx, .int 0, .int 0, .ref ll])) = hres h2 := by refine hres_setS c2 ?_; rfl
  show J M (hset h2 q (jO 9 [.ref tx, .int 0, .int 0, .ref ll])) _ _ _
  generalize hset h2 q (jO 9 [.ref tx, .int 0, .int 0, .ref ll]) = h3 at c3 f3 r3
  refine J.aload0 X dX9_init_20 ?_
  refine J.iload2 X dX9_init_21 ?_
  refine J.putf X dX9_init_22 pl_X9_22_X9 c3.1 (Nat.le_of_ble_eq_true rfl) rfl rfl ?_
  have c4 := c3.same (rdO tx n 0 ll)
  have f4 : Fr (fun z => z = 9) h3 (hset h3 q (rdO tx n 0 ll)) := Fr.set c3 rfl
  have r4 : hres (hset h3 q (rdO tx n 0 ll)) = hres h3 := by refine hres_setS c3 ?_; rfl
  show J M (hset h3 q (rdO tx n 0 ll)) _ _ _
  generalize hset h3 q (rdO tx n 0 ll) = h4 at c4 f4 r4
  refine J.vreturn X dX9_init_25 (jRv.of ?_)
  have ff := (f2.tr f3).tr f4
  exact ⟨ll, c4, ⟨[], _, _, L.fr ff htt, rfl, fun j n q e => (by cases e), by decide⟩, f1.tr ff, by omega⟩
def gtrace (g : GA) (r : Int32) (g' : GA) : Prop := (g.cls.length = 6 ∧ r = -4 ∧ g' = g) ∨ (g.cls.length < 6 ∧ ((∃ pl, rAll g.tx = .inl pl ∧ r = -10 - nI pl ∧ g' = g.wtx []) ∨ ∃ cl j, rAll g.tx = .inr (cl, j) ∧ r = nI g.cls.length ∧ g' = (g.wtx []).wcls (g.cls ++ [cl])))
theorem GX.trc {K : JK} {h h' : JIH} {o : Nat} {p : GP} {g : GA} {tz tzi : Nat} {T : Nat → Prop} (S : GX K h o p g tz tzi) (f : Fr T h h') (hT : ∀ z, T z → z = 8 ∨ z = 9 ∨ z = 2 ∨ 100 ≤ z) (tx' : List Nat) (cls' : List (List Cl)) (ho : hc h' 8 o (jO 0 (x0O p ((g.wtx tx').wcls cls')))) (ht : GT K h' p.tx tx') (hc' : GC h' p.tl cls') : GX K h' o p ((g.wtx tx').wcls cls') tz tzi := by
  obtain ⟨s1, ⟨ta, D, s2⟩, ⟨ta', D', s3⟩, s4, s5, s6, s7, s8, s9, s10, s11, s12, s13⟩ := S
  have nb : ∀ z, z ≠ 8 → z ≠ 9 → z ≠ 2 → z < 100 → ¬ T z := fun z a b c d q => by
    have := hT z q
    omega
  have n1 : ¬ T 1 := nb 1 (by decide) (by decide) (by decide) (by decide)
  have n_ : ∀ z, 3 ≤ z → z ≤ 4 ∨ 17 ≤ z → z < 100 → ¬ T z := fun z a b c => nb z (by omega) (by omega) (by omega) c
  exact ⟨ho, ⟨ta, D, s2.fr f (fun x a b => n_ x (by omega) (by omega) (by omega)) n1⟩, ⟨ta', D', s3.fr f (fun x a b => n_ x (by omega) (by omega) (by omega)) n1⟩, s4.fr f (n_ _ (by decide) (by decide) (by decide)), s5.fr f (n_ _ (by decide) (by decide) (by decide)), ht, hc', s8.fr f n1 (n_ _ (by decide) (by decide) (by decide)) (n_ _ (by decide) (by decide) (by decide)), s9.fr f n1 (n_ _ (by decide) (by decide) (by decide)) (n_ _ (by decide) (by decide) (by decide)), s10.fr f (fun z a b => n_ z (by omega) (by omega) (by omega)), s11, s12, s13⟩
/-- the text is empty again -/
theorem GT.nil {K : JK} {h : JIH} {a : Nat} {t : List Nat} (S : GT K h a t) : GT K h a [] := by
  obtain ⟨f, c, r, n⟩ := S
  exact ⟨f, c, fun i v hv => (by cases hv), by decide⟩
theorem x_trace {K : JK} {l : Launch} {hE : JIH} {o : Nat} {p : GP} {g : GA} {tz tzi : Nat} (F : JF K) (hl : l.stackTraces = false) (S : GX K hE o p g tz tzi) {r : Int32} {g' : GA} (hf : gtrace g r g') (rm : RM hE tz 900) :
    Ct K l yX0_trace wX0_trace 16 [.ref o] hE (jRi (fun r0 h' => r0 = r ∧ GX K h' o p g' tz tzi ∧ hres h' ≤ hres hE + 800 ∧ Fr n5 hE h')) jNo := by
  have so := S.o
  obtain ⟨ta, D, S1⟩ := S.cc
  have r8 := S1.rm8 rm
  clear S1
  obtain ⟨ns, it, mc, L, hn, h6, hq⟩ := S.tl
  have gt0 := S.gt
  refine st_X0_trace (ls := [some (.ref o), none, none]) F rfl (body := fun M X => ?_)
  refine J.aload0 X dX0_trace_0 ?_
  refine J.getf X dX0_trace_1 fl_X0_39_X0 (so.1) rfl ?_
  refine J.callVi X dX0_trace_4 lk_X0_69_J7 ce_J7_size (ll_size F L) (by decide) rfl (L.ob.1) rfl (fun r0 h2 e _ => ?_)
  obtain ⟨rfl, rfl⟩ := e
  rw [hn]
  refine J.bipush (v := nI 6) X dX0_trace_7 (by decide) ?_
  rcases hf with ⟨e6, rfl, rfl⟩ | ⟨l6, hf⟩
  · skip
    refine J.icmp_neN (tgt := 15) X dX0_trace_9 (by decide) (by omega) (by omega) (fun q9 => absurd q9 (fun z => z e6)) (fun _ => ?_)
    refine J.bipush (v := -4) X dX0_trace_12 (by decide) ?_
    refine J.ireturn X dX0_trace_14 (jRi.of ?_)
    exact ⟨rfl, S, by omega, Fr.rf _ _⟩
  refine J.icmp_neN (tgt := 15) X dX0_trace_9 (by decide) (by omega) (by omega) (fun _ => ?_) (fun q9 => absurd q9 (Nat.ne_of_lt l6))
  refine J.aload0 X dX0_trace_15 ?_
  refine J.getf X dX0_trace_16 fl_X0_229_X0 (so.1) rfl ?_
  refine J.istore1 X dX0_trace_19 ?_
  refine J.aload0 X dX0_trace_20 ?_
  refine J.iconst (v := nI 0) X dX0_trace_21 (by decide) ?_
  refine J.putf X dX0_trace_22 (pl_X0_229_X0 _) so.1 (Nat.le_of_ble_eq_true rfl) rfl rfl ?_
  have so1 := so.same (jO 0 (x0O p ((g.wtx []).wcls g.cls)))
  have f1 : Fr (fun z => z = 8) hE (hset hE o (jO 0 (x0O p ((g.wtx []).wcls g.cls)))) := Fr.set so rfl
  have r1 : hres (hset hE o (jO 0 (x0O p ((g.wtx []).wcls g.cls)))) = hres hE := by refine hres_setS so ?_; rfl
  show J M (hset hE o (jO 0 (x0O p ((g.wtx []).wcls g.cls)))) _ _ _
  generalize hset hE o (jO 0 (x0O p ((g.wtx []).wcls g.cls))) = h1 at so1 f1 r1
  have gt1 := gt0.fr f1 (by decide)
  have L1 := L.fr f1 (by decide)
  have hq1 : ∀ i n c, ns[i]? = some n → g.cls[i]? = some c → TR (100 + i) h1 (it n) c := fun i n c a b => (hq i n c a b).fr f1 (by omega) (by decide) (by decide)
  refine J.aload0 X dX0_trace_25 ?_
  refine J.getf X dX0_trace_26 fl_X0_39_X0 (so1.1) rfl ?_
  refine J.new (ci := 9) (9) X dX0_trace_29 jcl_9 cl_X0_232 rfl ((by show _ + (8 + 4) ≤ _; omega)) ?_
  show J M (hpush h1 9 (jO 9 [.null, .int 0, .int 0, .null])) _ _ _
  have cr := hc.new h1 9 (jO 9 [.null, .int 0, .int 0, .null])
  have f2 : Fr (fun z => z = 9) h1 (hpush h1 9 (jO 9 [.null, .int 0, .int 0, .null])) := Fr.push _ _ _ _
  have r2 : hres (hpush h1 9 (jO 9 [.null, .int 0, .int 0, .null])) = hres h1 + 12 := hres_push _ _ _
  have so2 := so1.push 9 (jO 9 [.null, .int 0, .int 0, .null])
  generalize hpush h1 9 (jO 9 [.null, .int 0, .int 0, .null]) = h2 at cr f2 r2 so2
  generalize hnew h1 = q at cr
  refine J.dup X dX0_trace_32 ?_
  refine J.aload0 X dX0_trace_33 ?_
  refine J.getf X dX0_trace_34 fl_X0_32_X0 (so2.1) rfl ?_
  refine J.iload1 X dX0_trace_37 ?_
  refine J.callI X dX0_trace_38 lk_X0_234 ce_X9_init (rd_init F (tt := 100 + g.cls.length) cr (by omega) (by omega)) (by decide) rfl (fun h3 z _ => ?_)
  obtain ⟨ll, c3, T3, f3, r3⟩ := z
  have f23 := f2.tr f3
  have gt3 := gt1.fr f23 (by decide)
  refine J.callVaX X dX0_trace_41 lk_X0_237_X9 ce_X9_whole (rd_whole F hl c3 gt3 T3 (by omega) (by omega)) (by decide) rfl (c3.1) rfl (fun r4 h4 z _ => ?_) (fun x E h4 z _ => ?_)
  rotate_left
  · -- thrown
    obtain ⟨rfl, pl, fs, e4, cx, e5, f4, r4⟩ := z
    refine JT.catch (a := 25) (b := 57) (t := 58) (ct := 245) X [] [] rfl (fun z hz => by cases hz) (by decide) (by decide) cl_X0_245 q2296 ?_
    refine J.astore2 X dX0_trace_58 ?_
    refine J.bipush (v := -10) X dX0_trace_59 (by decide) ?_
    refine J.aload2 X dX0_trace_61 ?_
    refine J.getf X dX0_trace_62 fl_X0_247_X11 cx.1 e5 ?_
    refine J.isub X dX0_trace_65 ?_
    refine J.ireturn X dX0_trace_66 (jRi.of ?_)
    rcases hf with ⟨pl', e6, rfl, rfl⟩ | ⟨cl, j, e6, -⟩
    · rw [e6] at e4
      cases e4
      have ff : Fr (fun z => z = 8 ∨ z = 9 ∨ z = 100 + g.cls.length) hE h4 := ((f1.mono (fun z hz => Or.inl hz)).tr (f23.mono (fun z hz => Or.inr (Or.inl hz)))).tr (f4.mono (fun z hz => Or.inr hz))
      have X2 := S.trc ff (fun z hz => by omega) [] g.cls (so1.fr ((f23.mono (T' := fun z => z = 9 ∨ z = 100 + g.cls.length) (fun z hz => Or.inl hz)).tr f4) (by omega)) (gt0.nil.fr ff (by omega)) ⟨ns, it, mc, L.fr ff (by omega), hn, h6, fun i n c a b => (hq i n c a b).fr ff (by have := (List.getElem?_eq_some_iff.mp b).1; omega) (by omega) (by omega)⟩
      exact ⟨rfl, X2, by omega, ff.mono (fun z hz => by show z ≠ 5; omega)⟩
    · rw [e6] at e4; cases e4
  obtain ⟨cl, j, e4, rfl, T4, f4, r4⟩ := z
  have f24 : Fr (fun z => z = 9 ∨ z = 100 + g.cls.length) h1 h4 := (f23.mono (fun z hz => Or.inl hz)).tr f4
  have L4 := L1.fr f24 (by omega)
  refine J.callVi X dX0_trace_44 lk_X0_241_J7 ce_J7_add (ll_add (x := ll) F L4 (by omega)) (by decide) rfl (L4.ob.1) rfl (fun r5 h5 z _ => ?_)
  obtain ⟨L5, f5, r5⟩ := z
  have f25 : Fr (fun z => z = 2 ∨ z = 9 ∨ z = 100 + g.cls.length) h1 h5 := (f24.mono (fun z hz => Or.inr hz)).tr (f5.mono (fun z hz => Or.inl hz))
  have so5 := so1.fr f25 (by omega)
  refine J.pop X dX0_trace_47 ?_
  refine J.aload0 X dX0_trace_48 ?_
  refine J.getf X dX0_trace_49 fl_X0_39_X0 (so5.1) rfl ?_
  refine J.callVi X dX0_trace_52 lk_X0_69_J7 ce_J7_size (ll_size F L5) (by decide) rfl (L5.ob.1) rfl (fun r0 h6 e _ => ?_)
  obtain ⟨rfl, rfl⟩ := e
  rw [List.length_append, hn]
  refine J.iconst (v := nI 1) X dX0_trace_55 (by decide) ?_
  refine J.isubN X dX0_trace_56 (Nat.le_add_left 1 _) ?_
  refine J.ireturn X dX0_trace_57 (jRi.of ?_)
  rcases hf with ⟨pl', e6, -⟩ | ⟨cl', j', e6, rfl, rfl⟩
  · rw [e6] at e4; cases e4
  rw [e6] at e4
  cases e4
  have ff : Fr (fun z => z = 8 ∨ z = 2 ∨ z = 9 ∨ z = 100 + g.cls.length) hE h5 := (f1.mono (fun z hz => Or.inl hz)).tr (f25.mono (fun z hz => Or.inr hz))
  have gc : GC h5 p.tl (g.cls ++ [cl]) := by
    refine ⟨_, _, _, L5, by simp [hn], by simp; omega, fun i n c a b => ?_⟩
    have hb := (List.getElem?_eq_some_iff.mp b).1
    simp at hb
    by_cases hi : i < g.cls.length
    · rw [List.getElem?_append_left (by omega)] at a
      rw [List.getElem?_append_left hi] at b
      have hlt := L4.lt n (List.mem_of_getElem? a)
      rw [va_up_at, if_neg (by omega)]
      exact (hq1 i n c a b).fr f25 (by omega) (by omega) (by omega)
    · have hi2 : i = g.cls.length := by omega
      subst hi2
      rw [List.getElem?_append_right (by omega), hn, Nat.sub_self] at a
      rw [List.getElem?_append_right (Nat.le_refl _), Nat.sub_self] at b
      cases a
      cases b
      rw [va_up_at, if_pos rfl]
      exact T4.fr f5 (by omega) (by decide) (by decide)
  have X2 := S.trc ff (fun z hz => by omega) [] (g.cls ++ [cl]) so5 (gt0.nil.fr ff (by omega)) gc
  exact ⟨rfl, X2, by omega, ff.mono (fun z hz => by show z ≠ 5; omega)⟩
