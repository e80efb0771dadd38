/-! SegmentedCache: its constructor -/
theorem tp_init {K : JK} {l : Launch} {hE : JIH} (F : JF K) {a : Nat} {fs : List Value} (hf : hget hE a = some (jO 4 fs)) : Ct K l yX4_init wX4_init 1 [.ref a] hE (jRv (fun h' => hE = h')) jNo := by
  refine st_X4_init (ls := [some (.ref a)]) F rfl (body := fun M X => ?_)
  refine J.aload0 X dX4_init_0 ?_
  refine J.objInit X dX4_init_1 lk_X4_3 (by decide) ?_
  refine J.vreturn X dX4_init_4 (jRv.of ?_)
  rfl
def g0A : GA := ((s0A, C0A, []), (s0A, C0A, []), 0, [], [], [], [], fun _ => none)
abbrev z15 (v0 v1 v2 v3 v5 v6 v7 v9 v10 v11 v12 : Value) : va_E := jO 0 [v0, v1, v2, v3, .int 0, v5, v6, v7, .int 0, v9, v10, v11, v12, .int 0, .int 0]
theorem BC.c0 : BC C0A := by
  unfold BC C0A
  simp
theorem x_init {K : JK} {l : Launch} {hE : JIH} (F : JF K) {o : Nat} (hf : hc hE 8 o (z15 .null .null .null .null .null .null .null .null .null .null .null)) (hr : hres hE + 8000 ≤ jRL) :
    Ct K l yX0_init wX0_init 7 [.ref o] hE (jRv (fun h' => ∃ p, GX K h' o p g0A 0 0 ∧ Fr n5 hE h' ∧ hres h' ≤ hres hE + 7000)) jNo := by
  refine st_X0_init (ls := [some (.ref o), none]) F rfl (body := fun M X => ?_)
  refine J.aload0 X dX0_init_0 ?_
  refine J.objInit X dX0_init_1 lk_X0_9 (by decide) ?_
  refine J.aload0 X dX0_init_4 ?_
  -- now
  refine J.new (ci := 1) (22) X dX0_init_5 jcl_1 cl_X0_15 rfl ((by show _ + (8 + 16) ≤ _; omega)) ?_
  show J M (hpush hE 22 (jO 1 [.int 0, .int 0, .int 0, .int 0, .int 0, .int 0, .int 0, .int 0, .int 0, .int 0, .null, .null, .null, .null, .null, .int 0])) _ _ _
  have a1 := hc.new hE 22 (jO 1 [.int 0, .int 0, .int 0, .int 0, .int 0, .int 0, .int 0, .int 0, .int 0, .int 0, .null, .null, .null, .null, .null, .int 0])
  have o1 := hf.push 22 (jO 1 [.int 0, .int 0, .int 0, .int 0, .int 0, .int 0, .int 0, .int 0, .int 0, .int 0, .null, .null, .null, .null, .null, .int 0])
  have f1 : Fr (fun z => CT 16 z ∨ z = 8) hE (hpush hE 22 (jO 1 [.int 0, .int 0, .int 0, .int 0, .int 0, .int 0, .int 0, .int 0, .int 0, .int 0, .null, .null, .null, .null, .null, .int 0])) := Fr.push _ _ _ _
  have r1 : hres (hpush hE 22 (jO 1 [.int 0, .int 0, .int 0, .int 0, .int 0, .int 0, .int 0, .int 0, .int 0, .int 0, .null, .null, .null, .null, .null, .int 0])) = hres hE + 24 := hres_push _ _ _
  generalize hpush hE 22 (jO 1 [.int 0, .int 0, .int 0, .int 0, .int 0, .int 0, .int 0, .int 0, .int 0, .int 0, .null, .null, .null, .null, .null, .int 0]) = h1 at a1 o1 f1 r1
  generalize hnew hE = c at a1
  refine J.dup X dX0_init_8 ?_
  refine J.callIN X dX0_init_9 lk_X0_17 ce_X1_init (k_init (b := 16) F (Or.inl rfl) a1 (by omega)) (by decide) rfl (fun h2 e _ => ?_)
  obtain ⟨y, C1, f2, r2⟩ := e
  have o2 := o1.fr f2 (by unfold CT; omega)
  refine J.putf X dX0_init_12 pl_X0_18_X0 o2.1 (Nat.le_of_ble_eq_true rfl) rfl rfl ?_
  have o3 := o2.same (z15 (.ref c) .null .null .null .null .null .null .null .null .null .null)
  have f3 : Fr (fun z => CT 16 z ∨ z = 8) h2 (hset h2 o (z15 (.ref c) .null .null .null .null .null .null .null .null .null .null)) := Fr.set o2 (Or.inr rfl)
  have r3 : hres (hset h2 o (z15 (.ref c) .null .null .null .null .null .null .null .null .null .null)) = hres h2 := by refine hres_setS o2 ?_; rfl
  have C2 : CC K 16 (hset h2 o (z15 (.ref c) .null .null .null .null .null .null .null .null .null .null)) c y s0A C0A [] (fun _ => 0) [] 0 := C1.fr (T := fun z => z = 8) (Fr.set o2 rfl) (fun x a b => by omega) (by decide)
  show J M (hset h2 o (z15 (.ref c) .null .null .null .null .null .null .null .null .null .null)) _ _ _
  generalize hset h2 o (z15 (.ref c) .null .null .null .null .null .null .null .null .null .null) = h3 at o3 f3 r3 C2
  have F1 : Fr (fun z => CT 16 z ∨ z = 8) hE h3 := (f1.tr (f2.mono (fun z hz => Or.inl hz))).tr f3
  have R1 : hres h3 ≤ hres hE + 300 := by omega
  clear f1 f2 f3 r1 r2 r3 C1 o1 o2 a1
  refine J.aload0 X dX0_init_15 ?_
  -- thought
  refine J.new (ci := 3) (3) X dX0_init_16 jcl_3 cl_X0_22 rfl ((by show _ + (8 + 19) ≤ _; omega)) ?_
  show J M (hpush h3 3 (jO 3 [.null, .null, .null, .null, .null, .null, .null, .null, .null, .null, .int 0, .int 0, .int 0, .int 0, .int 0, .int 0, .int 0, .int 0, .int 0])) _ _ _
  have a1 := hc.new h3 3 (jO 3 [.null, .null, .null, .null, .null, .null, .null, .null, .null, .null, .int 0, .int 0, .int 0, .int 0, .int 0, .int 0, .int 0, .int 0, .int 0])
  have o1 := o3.push 3 (jO 3 [.null, .null, .null, .null, .null, .null, .null, .null, .null, .null, .int 0, .int 0, .int 0, .int 0, .int 0, .int 0, .int 0, .int 0, .int 0])
  have f1 : Fr (fun z => z = 3 ∨ z = 8) h3 (hpush h3 3 (jO 3 [.null, .null, .null, .null, .null, .null, .null, .null, .null, .null, .int 0, .int 0, .int 0, .int 0, .int 0, .int 0, .int 0, .int 0, .int 0])) := Fr.push _ _ _ _
  have r1 : hres (hpush h3 3 (jO 3 [.null, .null, .null, .null, .null, .null, .null, .null, .null, .null, .int 0, .int 0, .int 0, .int 0, .int 0, .int 0, .int 0, .int 0, .int 0])) = hres h3 + 27 := hres_push _ _ _
  have n1 := hnew_push h3 3 (jO 3 [.null, .null, .null, .null, .null, .null, .null, .null, .null, .null, .int 0, .int 0, .int 0, .int 0, .int 0, .int 0, .int 0, .int 0, .int 0])
  have n2 : (hpush h3 3 (jO 3 [.null, .null, .null, .null, .null, .null, .null, .null, .null, .null, .int 0, .int 0, .int 0, .int 0, .int 0, .int 0, .int 0, .int 0, .int 0])).1 ≤ hnew h3 := by unfold hnew; exact Nat.le_add_right _ _
  generalize hpush h3 3 (jO 3 [.null, .null, .null, .null, .null, .null, .null, .null, .null, .null, .int 0, .int 0, .int 0, .int 0, .int 0, .int 0, .int 0, .int 0, .int 0]) = h4 at a1 o1 f1 r1 n1 n2
  generalize hnew h3 = b3 at a1 n1 n2
  refine J.dup X dX0_init_19 ?_
  refine J.callIN X dX0_init_20 lk_X0_24 ce_X3_init (sk_init (t := 3) F a1 n1 n2 (by omega)) (by decide) rfl (fun h9 e _ => ?_)
  obtain ⟨s3, f2, r2⟩ := e
  have o2 := o1.fr f2 (by decide)
  refine J.putf X dX0_init_23 pl_X0_25_X0 o2.1 (Nat.le_of_ble_eq_true rfl) rfl rfl ?_
  have o5 := o2.same (z15 (.ref c) (.ref b3) .null .null .null .null .null .null .null .null .null)
  have f3 : Fr (fun z => z = 3 ∨ z = 8) h9 (hset h9 o (z15 (.ref c) (.ref b3) .null .null .null .null .null .null .null .null .null)) := Fr.set o2 (Or.inr rfl)
  have r3 : hres (hset h9 o (z15 (.ref c) (.ref b3) .null .null .null .null .null .null .null .null .null)) = hres h9 := by refine hres_setS o2 ?_; rfl
  replace s3 : SZ K 3 (hset h9 o (z15 (.ref c) (.ref b3) .null .null .null .null .null .null .null .null .null)) b3 := s3.fr (T := fun z => z = 8) (Fr.set o2 rfl) (by decide)
  show J M (hset h9 o (z15 (.ref c) (.ref b3) .null .null .null .null .null .null .null .null .null)) _ _ _
  generalize hset h9 o (z15 (.ref c) (.ref b3) .null .null .null .null .null .null .null .null .null) = h5 at o5 f3 r3 s3
  have F2 : Fr (fun z => z = 3 ∨ z = 8) h3 h5 := (f1.tr (f2.mono (fun z hz => Or.inl hz))).tr f3
  have R2 : hres h5 ≤ hres h3 + 3000 := by omega
  clear f1 f2 f3 r1 r2 r3 o1 o2 a1 n1 n2
  refine J.aload0 X dX0_init_26 ?_
  refine J.new (ci := 3) (4) X dX0_init_27 jcl_3 cl_X0_22 rfl ((by show _ + (8 + 19) ≤ _; omega)) ?_
  show J M (hpush h5 4 (jO 3 [.null, .null, .null, .null, .null, .null, .null, .null, .null, .null, .int 0, .int 0, .int 0, .int 0, .int 0, .int 0, .int 0, .int 0, .int 0])) _ _ _
  have a1 := hc.new h5 4 (jO 3 [.null, .null, .null, .null, .null, .null, .null, .null, .null, .null, .int 0, .int 0, .int 0, .int 0, .int 0, .int 0, .int 0, .int 0, .int 0])
  have o1 := o5.push 4 (jO 3 [.null, .null, .null, .null, .null, .null, .null, .null, .null, .null, .int 0, .int 0, .int 0, .int 0, .int 0, .int 0, .int 0, .int 0, .int 0])
  have f1 : Fr (fun z => z = 4 ∨ z = 8) h5 (hpush h5 4 (jO 3 [.null, .null, .null, .null, .null, .null, .null, .null, .null, .null, .int 0, .int 0, .int 0, .int 0, .int 0, .int 0, .int 0, .int 0, .int 0])) := Fr.push _ _ _ _
  have r1 : hres (hpush h5 4 (jO 3 [.null, .null, .null, .null, .null, .null, .null, .null, .null, .null, .int 0, .int 0, .int 0, .int 0, .int 0, .int 0, .int 0, .int 0, .int 0])) = hres h5 + 27 := hres_push _ _ _
  have n1 := hnew_push h5 4 (jO 3 [.null, .null, .null, .null, .null, .null, .null, .null, .null, .null, .int 0, .int 0, .int 0, .int 0, .int 0, .int 0, .int 0, .int 0, .int 0])
  have n2 : (hpush h5 4 (jO 3 [.null, .null, .null, .null, .null, .null, .null, .null, .null, .null, .int 0, .int 0, .int 0, .int 0, .int 0, .int 0, .int 0, .int 0, .int 0])).1 ≤ hnew h5 := by unfold hnew; exact Nat.le_add_right _ _
  generalize hpush h5 4 (jO 3 [.null, .null, .null, .null, .null, .null, .null, .null, .null, .null, .int 0, .int 0, .int 0, .int 0, .int 0, .int 0, .int 0, .int 0, .int 0]) = h6 at a1 o1 f1 r1 n1 n2
  generalize hnew h5 = b4 at a1 n1 n2
  refine J.dup X dX0_init_30 ?_
  refine J.callIN X dX0_init_31 lk_X0_24 ce_X3_init (sk_init (t := 4) F a1 n1 n2 (by omega)) (by decide) rfl (fun h9 e _ => ?_)
  obtain ⟨s4, f2, r2⟩ := e
  have o2 := o1.fr f2 (by decide)
  refine J.putf X dX0_init_34 pl_X0_29_X0 o2.1 (Nat.le_of_ble_eq_true rfl) rfl rfl ?_
  have o7 := o2.same (z15 (.ref c) (.ref b3) (.ref b4) .null .null .null .null .null .null .null .null)
  have f3 : Fr (fun z => z = 4 ∨ z = 8) h9 (hset h9 o (z15 (.ref c) (.ref b3) (.ref b4) .null .null .null .null .null .null .null .null)) := Fr.set o2 (Or.inr rfl)
  have r3 : hres (hset h9 o (z15 (.ref c) (.ref b3) (.ref b4) .null .null .null .null .null .null .null .null)) = hres h9 := by refine hres_setS o2 ?_; rfl
  replace s4 : SZ K 4 (hset h9 o (z15 (.ref c) (.ref b3) (.ref b4) .null .null .null .null .null .null .null .null)) b4 := s4.fr (T := fun z => z = 8) (Fr.set o2 rfl) (by decide)
  show J M (hset h9 o (z15 (.ref c) (.ref b3) (.ref b4) .null .null .null .null .null .null .null .null)) _ _ _
  generalize hset h9 o (z15 (.ref c) (.ref b3) (.ref b4) .null .null .null .null .null .null .null .null) = h7 at o7 f3 r3 s4
  have F3 : Fr (fun z => z = 4 ∨ z = 8) h5 h7 := (f1.tr (f2.mono (fun z hz => Or.inl hz))).tr f3
  have R3 : hres h7 ≤ hres h5 + 3000 := by omega
  clear f1 f2 f3 r1 r2 r3 o1 o2 a1 n1 n2
  -- text
  refine J.aload0 X dX0_init_37 ?_
  refine J.bipush (v := nI 100) X dX0_init_38 (by decide) ?_
  refine J.newB (n := 100) 60 X dX0_init_40 q419 rfl (by decide) (by omega) ?_
  have c60 := hc.new h7 60 (jA K 1 100 (fun _ => 0))
  have o1 := o7.push 60 (jA K 1 100 (fun _ => 0))
  have f1 : Fr (fun z => z = 8) h7 (hpush h7 60 (jA K 1 100 (fun _ => 0))) := Fr.push _ _ _ _
  have r1 : hres (hpush h7 60 (jA K 1 100 (fun _ => 0))) = hres h7 + 108 := hres_push _ _ _
  generalize hpush h7 60 (jA K 1 100 (fun _ => 0)) = h9 at c60 o1 f1 r1
  generalize hnew h7 = tx at c60
  refine J.putf X dX0_init_42 pl_X0_32_X0 o1.1 (Nat.le_of_ble_eq_true rfl) rfl rfl ?_
  have o8 := o1.same (z15 (.ref c) (.ref b3) (.ref b4) (.ref tx) .null .null .null .null .null .null .null)
  have f3 : Fr (fun z => z = 8) h9 (hset h9 o (z15 (.ref c) (.ref b3) (.ref b4) (.ref tx) .null .null .null .null .null .null .null)) := Fr.set o1 rfl
  have r3 : hres (hset h9 o (z15 (.ref c) (.ref b3) (.ref b4) (.ref tx) .null .null .null .null .null .null .null)) = hres h9 := by refine hres_setS o1 ?_; rfl
  show J M (hset h9 o (z15 (.ref c) (.ref b3) (.ref b4) (.ref tx) .null .null .null .null .null .null .null)) _ _ _
  generalize hset h9 o (z15 (.ref c) (.ref b3) (.ref b4) (.ref tx) .null .null .null .null .null .null .null) = h8 at o8 f3 r3
  replace c60 := c60.fr f3 (by decide)
  have F4 := f1.tr f3
  have R4 : hres h8 ≤ hres h7 + 108 := by omega
  clear f1 f3 r1 r3 o1
  -- traces
  refine J.aload0 X dX0_init_45 ?_
  refine J.new (ci := 16) (2) X dX0_init_46 jcl_16 cl_X0_36 rfl ((by show _ + (8 + 4) ≤ _; omega)) ?_
  show J M (hpush h8 2 (jO 16 [.int 0, .int 0, .null, .null])) _ _ _
  have a1 := hc.new h8 2 (jO 16 [.int 0, .int 0, .null, .null])
  have o1 := o8.push 2 (jO 16 [.int 0, .int 0, .null, .null])
  have f1 : Fr (fun z => z = 8) h8 (hpush h8 2 (jO 16 [.int 0, .int 0, .null, .null])) := Fr.push _ _ _ _
  have r1 : hres (hpush h8 2 (jO 16 [.int 0, .int 0, .null, .null])) = hres h8 + 12 := hres_push _ _ _
  generalize hpush h8 2 (jO 16 [.int 0, .int 0, .null, .null]) = h10 at a1 o1 f1 r1
  generalize hnew h8 = tl at a1
  refine J.dup X dX0_init_49 ?_
  refine J.callI X dX0_init_50 lk_X0_38 ce_J7_init (ll_init F a1) (by decide) rfl (fun h11 e _ => ?_)
  obtain ⟨LL1, rfl⟩ := e
  refine J.putf X dX0_init_53 pl_X0_39_X0 o1.1 (Nat.le_of_ble_eq_true rfl) rfl rfl ?_
  have o9 := o1.same (z15 (.ref c) (.ref b3) (.ref b4) (.ref tx) (.ref tl) .null .null .null .null .null .null)
  have f3 : Fr (fun z => z = 8) h10 (hset h10 o (z15 (.ref c) (.ref b3) (.ref b4) (.ref tx) (.ref tl) .null .null .null .null .null .null)) := Fr.set o1 rfl
  have r3 : hres (hset h10 o (z15 (.ref c) (.ref b3) (.ref b4) (.ref tx) (.ref tl) .null .null .null .null .null .null)) = hres h10 := by refine hres_setS o1 ?_; rfl
  show J M (hset h10 o (z15 (.ref c) (.ref b3) (.ref b4) (.ref tx) (.ref tl) .null .null .null .null .null .null)) _ _ _
  generalize hset h10 o (z15 (.ref c) (.ref b3) (.ref b4) (.ref tx) (.ref tl) .null .null .null .null .null .null) = h11 at o9 f3 r3
  replace LL1 := LL1.fr f3 (by decide)
  have F5 := f1.tr f3
  have R5 : hres h11 ≤ hres h8 + 12 := by omega
  clear f1 f3 r1 r3 o1 a1
  -- the book, the tapes
  refine J.aload0 X dX0_init_56 ?_
  refine J.bipush (v := nI 8) X dX0_init_57 (by decide) ?_
  refine J.newR (tt := 7) (n := 8) 61 X dX0_init_59 cl_X0_43 q421 rfl rfl (by decide) (by omega) ?_
  have c61 := hc.new h11 61 (jAR K 7 8 (fun _ => none))
  have o1 := o9.push 61 (jAR K 7 8 (fun _ => none))
  have f1 : Fr (fun z => z = 8) h11 (hpush h11 61 (jAR K 7 8 (fun _ => none))) := Fr.push _ _ _ _
  have r1 : hres (hpush h11 61 (jAR K 7 8 (fun _ => none))) = hres h11 + 16 := hres_push _ _ _
  generalize hpush h11 61 (jAR K 7 8 (fun _ => none)) = h12 at c61 o1 f1 r1
  generalize hnew h11 = bk at c61
  refine J.putf X dX0_init_62 pl_X0_45_X0 o1.1 (Nat.le_of_ble_eq_true rfl) rfl rfl ?_
  have o10 := o1.same (z15 (.ref c) (.ref b3) (.ref b4) (.ref tx) (.ref tl) (.ref bk) .null .null .null .null .null)
  have f3 : Fr (fun z => z = 8) h12 (hset h12 o (z15 (.ref c) (.ref b3) (.ref b4) (.ref tx) (.ref tl) (.ref bk) .null .null .null .null .null)) := Fr.set o1 rfl
  have r3 : hres (hset h12 o (z15 (.ref c) (.ref b3) (.ref b4) (.ref tx) (.ref tl) (.ref bk) .null .null .null .null .null)) = hres h12 := by refine hres_setS o1 ?_; rfl
  show J M (hset h12 o (z15 (.ref c) (.ref b3) (.ref b4) (.ref tx) (.ref tl) (.ref bk) .null .null .null .null .null)) _ _ _
  generalize hset h12 o (z15 (.ref c) (.ref b3) (.ref b4) (.ref tx) (.ref tl) (.ref bk) .null .null .null .null .null) = h13 at o10 f3 r3
  replace c61 := c61.fr f3 (by decide)
  have F6 := f1.tr f3
  have R6 : hres h13 ≤ hres h11 + 16 := by omega
  clear f1 f3 r1 r3 o1
  refine J.aload0 X dX0_init_65 ?_
  refine J.bipush (v := nI 8) X dX0_init_66 (by decide) ?_
  refine J.newI (n := 8) 62 X dX0_init_68 q387 rfl (by decide) (by omega) ?_
  have c62 := hc.new h13 62 (jA K 0 8 (fun _ => 0))
  have o1 := o10.push 62 (jA K 0 8 (fun _ => 0))
  have f1 : Fr (fun z => z = 8) h13 (hpush h13 62 (jA K 0 8 (fun _ => 0))) := Fr.push _ _ _ _
  have r1 : hres (hpush h13 62 (jA K 0 8 (fun _ => 0))) = hres h13 + 16 := hres_push _ _ _
  generalize hpush h13 62 (jA K 0 8 (fun _ => 0)) = h14 at c62 o1 f1 r1
  generalize hnew h13 = bw at c62
  refine J.putf X dX0_init_70 pl_X0_49_X0 o1.1 (Nat.le_of_ble_eq_true rfl) rfl rfl ?_
  have o11 := o1.same (z15 (.ref c) (.ref b3) (.ref b4) (.ref tx) (.ref tl) (.ref bk) (.ref bw) .null .null .null .null)
  have f3 : Fr (fun z => z = 8) h14 (hset h14 o (z15 (.ref c) (.ref b3) (.ref b4) (.ref tx) (.ref tl) (.ref bk) (.ref bw) .null .null .null .null)) := Fr.set o1 rfl
  have r3 : hres (hset h14 o (z15 (.ref c) (.ref b3) (.ref b4) (.ref tx) (.ref tl) (.ref bk) (.ref bw) .null .null .null .null)) = hres h14 := by refine hres_setS o1 ?_; rfl
  show J M (hset h14 o (z15 (.ref c) (.ref b3) (.ref b4) (.ref tx) (.ref tl) (.ref bk) (.ref bw) .null .null .null .null)) _ _ _
  generalize hset h14 o (z15 (.ref c) (.ref b3) (.ref b4) (.ref tx) (.ref tl) (.ref bk) (.ref bw) .null .null .null .null) = h15 at o11 f3 r3
  replace c62 := c62.fr f3 (by decide)
  have F7 := f1.tr f3
  have R7 : hres h15 ≤ hres h13 + 16 := by omega
  clear f1 f3 r1 r3 o1
  refine J.aload0 X dX0_init_73 ?_
  refine J.bipush (v := nI 6) X dX0_init_74 (by decide) ?_
  refine J.newR (tt := 9) (n := 6) 65 X dX0_init_76 cl_X0_53 q423 rfl rfl (by decide) (by omega) ?_
  have c65 := hc.new h15 65 (jAR K 9 6 (fun _ => none))
  have o1 := o11.push 65 (jAR K 9 6 (fun _ => none))
  have f1 : Fr (fun z => z = 8) h15 (hpush h15 65 (jAR K 9 6 (fun _ => none))) := Fr.push _ _ _ _
  have r1 : hres (hpush h15 65 (jAR K 9 6 (fun _ => none))) = hres h15 + 14 := hres_push _ _ _
  generalize hpush h15 65 (jAR K 9 6 (fun _ => none)) = h16 at c65 o1 f1 r1
  generalize hnew h15 = tp at c65
  refine J.putf X dX0_init_79 pl_X0_55_X0 o1.1 (Nat.le_of_ble_eq_true rfl) rfl rfl ?_
  have o12 := o1.same (z15 (.ref c) (.ref b3) (.ref b4) (.ref tx) (.ref tl) (.ref bk) (.ref bw) (.ref tp) .null .null .null)
  have f3 : Fr (fun z => z = 8) h16 (hset h16 o (z15 (.ref c) (.ref b3) (.ref b4) (.ref tx) (.ref tl) (.ref bk) (.ref bw) (.ref tp) .null .null .null)) := Fr.set o1 rfl
  have r3 : hres (hset h16 o (z15 (.ref c) (.ref b3) (.ref b4) (.ref tx) (.ref tl) (.ref bk) (.ref bw) (.ref tp) .null .null .null)) = hres h16 := by refine hres_setS o1 ?_; rfl
  show J M (hset h16 o (z15 (.ref c) (.ref b3) (.ref b4) (.ref tx) (.ref tl) (.ref bk) (.ref bw) (.ref tp) .null .null .null)) _ _ _
  generalize hset h16 o (z15 (.ref c) (.ref b3) (.ref b4) (.ref tx) (.ref tl) (.ref bk) (.ref bw) (.ref tp) .null .null .null) = h17 at o12 f3 r3
  replace c65 := c65.fr f3 (by decide)
  have F8 := f1.tr f3
  have R8 : hres h17 ≤ hres h15 + 14 := by omega
  clear f1 f3 r1 r3 o1
  -- behind the loop
  have rest : ∀ (h : JIH) (tpa : Nat → Nat) (f : Nat → Option Nat), hc h 8 o (z15 (.ref c) (.ref b3) (.ref b4) (.ref tx) (.ref tl) (.ref bk) (.ref bw) (.ref tp) .null .null .null) → hc h 65 tp (jAR K 9 6 f) → (∀ i, i < 6 → f i = some (tpa i)) → (∀ i, i < 6 → hc h (70 + i) (tpa i) (jO 4 [.null])) → Fr (fun z => z = 65) h17 h → hres h ≤ hres h17 + 54 → J M h 109 [some (.ref o), some (.int (nI 6))] [] := by
    intro h tpa f o1 c1 hft ht f9 r9
    refine J.aload0 X dX0_init_109 ?_
    refine J.new (ci := 1) (38) X dX0_init_110 jcl_1 cl_X0_15 rfl ((by show _ + (8 + 16) ≤ _; omega)) ?_
    show J M (hpush h 38 (jO 1 [.int 0, .int 0, .int 0, .int 0, .int 0, .int 0, .int 0, .int 0, .int 0, .int 0, .null, .null, .null, .null, .null, .int 0])) _ _ _
    have a2 := hc.new h 38 (jO 1 [.int 0, .int 0, .int 0, .int 0, .int 0, .int 0, .int 0, .int 0, .int 0, .int 0, .null, .null, .null, .null, .null, .int 0])
    have o2 := o1.push 38 (jO 1 [.int 0, .int 0, .int 0, .int 0, .int 0, .int 0, .int 0, .int 0, .int 0, .int 0, .null, .null, .null, .null, .null, .int 0])
    have f2 : Fr (fun z => CT 32 z ∨ z = 8) h (hpush h 38 (jO 1 [.int 0, .int 0, .int 0, .int 0, .int 0, .int 0, .int 0, .int 0, .int 0, .int 0, .null, .null, .null, .null, .null, .int 0])) := Fr.push _ _ _ _
    have r2 : hres (hpush h 38 (jO 1 [.int 0, .int 0, .int 0, .int 0, .int 0, .int 0, .int 0, .int 0, .int 0, .int 0, .null, .null, .null, .null, .null, .int 0])) = hres h + 24 := hres_push _ _ _
    generalize hpush h 38 (jO 1 [.int 0, .int 0, .int 0, .int 0, .int 0, .int 0, .int 0, .int 0, .int 0, .int 0, .null, .null, .null, .null, .null, .int 0]) = g1 at a2 o2 f2 r2
    generalize hnew h = ci at a2
    refine J.dup X dX0_init_113 ?_
    refine J.callIN X dX0_init_114 lk_X0_17 ce_X1_init (k_init (b := 32) F (Or.inr rfl) a2 (by omega)) (by decide) rfl (fun g2 e _ => ?_)
    obtain ⟨yi, C3, f3, r3⟩ := e
    have o3 := o2.fr f3 (by unfold CT; omega)
    refine J.putf X dX0_init_117 pl_X0_60_X0 o3.1 (Nat.le_of_ble_eq_true rfl) rfl rfl ?_
    have o4 := o3.same (z15 (.ref c) (.ref b3) (.ref b4) (.ref tx) (.ref tl) (.ref bk) (.ref bw) (.ref tp) (.ref ci) .null .null)
    have f4 : Fr (fun z => CT 32 z ∨ z = 8) g2 (hset g2 o (z15 (.ref c) (.ref b3) (.ref b4) (.ref tx) (.ref tl) (.ref bk) (.ref bw) (.ref tp) (.ref ci) .null .null)) := Fr.set o3 (Or.inr rfl)
    have r4 : hres (hset g2 o (z15 (.ref c) (.ref b3) (.ref b4) (.ref tx) (.ref tl) (.ref bk) (.ref bw) (.ref tp) (.ref ci) .null .null)) = hres g2 := by refine hres_setS o3 ?_; rfl
    have C4 : CC K 32 (hset g2 o (z15 (.ref c) (.ref b3) (.ref b4) (.ref tx) (.ref tl) (.ref bk) (.ref bw) (.ref tp) (.ref ci) .null .null)) ci yi s0A C0A [] (fun _ => 0) [] 0 := C3.fr (T := fun z => z = 8) (Fr.set o3 rfl) (fun x a b => by omega) (by decide)
    show J M (hset g2 o (z15 (.ref c) (.ref b3) (.ref b4) (.ref tx) (.ref tl) (.ref bk) (.ref bw) (.ref tp) (.ref ci) .null .null)) _ _ _
    generalize hset g2 o (z15 (.ref c) (.ref b3) (.ref b4) (.ref tx) (.ref tl) (.ref bk) (.ref bw) (.ref tp) (.ref ci) .null .null) = g3 at o4 f4 r4 C4
    have F9 : Fr (fun z => CT 32 z ∨ z = 8) h g3 := (f2.tr (f3.mono (fun z hz => Or.inl hz))).tr f4
    have R9 : hres g3 ≤ hres h + 224 := by omega
    clear f2 f3 f4 r2 r3 r4 o2 o3 C3 a2
    refine J.aload0 X dX0_init_120 ?_
    refine J.bipush (v := nI 8) X dX0_init_121 (by decide) ?_
    refine J.newR (tt := 7) (n := 8) 63 X dX0_init_123 cl_X0_43 q421 rfl rfl (by decide) (by omega) ?_
    have c63 := hc.new g3 63 (jAR K 7 8 (fun _ => none))
    have p1 := o4.push 63 (jAR K 7 8 (fun _ => none))
    have f1 : Fr (fun z => z = 8) g3 (hpush g3 63 (jAR K 7 8 (fun _ => none))) := Fr.push _ _ _ _
    have r1 : hres (hpush g3 63 (jAR K 7 8 (fun _ => none))) = hres g3 + 16 := hres_push _ _ _
    generalize hpush g3 63 (jAR K 7 8 (fun _ => none)) = g4 at c63 p1 f1 r1
    generalize hnew g3 = ibk at c63
    refine J.putf X dX0_init_126 pl_X0_63_X0 p1.1 (Nat.le_of_ble_eq_true rfl) rfl rfl ?_
    have o6 := p1.same (z15 (.ref c) (.ref b3) (.ref b4) (.ref tx) (.ref tl) (.ref bk) (.ref bw) (.ref tp) (.ref ci) (.ref ibk) .null)
    have f3 : Fr (fun z => z = 8) g4 (hset g4 o (z15 (.ref c) (.ref b3) (.ref b4) (.ref tx) (.ref tl) (.ref bk) (.ref bw) (.ref tp) (.ref ci) (.ref ibk) .null)) := Fr.set p1 rfl
    have r3 : hres (hset g4 o (z15 (.ref c) (.ref b3) (.ref b4) (.ref tx) (.ref tl) (.ref bk) (.ref bw) (.ref tp) (.ref ci) (.ref ibk) .null)) = hres g4 := by refine hres_setS p1 ?_; rfl
    show J M (hset g4 o (z15 (.ref c) (.ref b3) (.ref b4) (.ref tx) (.ref tl) (.ref bk) (.ref bw) (.ref tp) (.ref ci) (.ref ibk) .null)) _ _ _
    generalize hset g4 o (z15 (.ref c) (.ref b3) (.ref b4) (.ref tx) (.ref tl) (.ref bk) (.ref bw) (.ref tp) (.ref ci) (.ref ibk) .null) = g5 at o6 f3 r3
    replace c63 := c63.fr f3 (by decide)
    have Fa := f1.tr f3
    have Ra : hres g5 ≤ hres g3 + 16 := by omega
    clear f1 f3 r1 r3 p1
    refine J.aload0 X dX0_init_129 ?_
    refine J.bipush (v := nI 8) X dX0_init_130 (by decide) ?_
    refine J.newI (n := 8) 64 X dX0_init_132 q387 rfl (by decide) (by omega) ?_
    have c64 := hc.new g5 64 (jA K 0 8 (fun _ => 0))
    have p1 := o6.push 64 (jA K 0 8 (fun _ => 0))
    have f1 : Fr (fun z => z = 8) g5 (hpush g5 64 (jA K 0 8 (fun _ => 0))) := Fr.push _ _ _ _
    have r1 : hres (hpush g5 64 (jA K 0 8 (fun _ => 0))) = hres g5 + 16 := hres_push _ _ _
    generalize hpush g5 64 (jA K 0 8 (fun _ => 0)) = g6 at c64 p1 f1 r1
    generalize hnew g5 = ibw at c64
    refine J.putf X dX0_init_134 pl_X0_66_X0 p1.1 (Nat.le_of_ble_eq_true rfl) rfl rfl ?_
    have o8 := p1.same (z15 (.ref c) (.ref b3) (.ref b4) (.ref tx) (.ref tl) (.ref bk) (.ref bw) (.ref tp) (.ref ci) (.ref ibk) (.ref ibw))
    have f3 : Fr (fun z => z = 8) g6 (hset g6 o (z15 (.ref c) (.ref b3) (.ref b4) (.ref tx) (.ref tl) (.ref bk) (.ref bw) (.ref tp) (.ref ci) (.ref ibk) (.ref ibw))) := Fr.set p1 rfl
    have r3 : hres (hset g6 o (z15 (.ref c) (.ref b3) (.ref b4) (.ref tx) (.ref tl) (.ref bk) (.ref bw) (.ref tp) (.ref ci) (.ref ibk) (.ref ibw))) = hres g6 := by refine hres_setS p1 ?_; rfl
    show J M (hset g6 o (z15 (.ref c) (.ref b3) (.ref b4) (.ref tx) (.ref tl) (.ref bk) (.ref bw) (.ref tp) (.ref ci) (.ref ibk) (.ref ibw))) _ _ _
    generalize hset g6 o (z15 (.ref c) (.ref b3) (.ref b4) (.ref tx) (.ref tl) (.ref bk) (.ref bw) (.ref tp) (.ref ci) (.ref ibk) (.ref ibw)) = g7 at o8 f3 r3
    replace c64 := c64.fr f3 (by decide)
    have Fb := f1.tr f3
    have Rb : hres g7 ≤ hres g5 + 16 := by omega
    clear f1 f3 r1 r3 p1
    refine J.vreturn X dX0_init_137 (jRv.of ?_)
    have cab := Fa.tr Fb
    have ca9 : Fr (fun z => CT 32 z ∨ z = 8) h g7 := F9.tr (cab.mono (fun z hz => Or.inr hz))
    have ca8 : Fr (fun z => (z = 65 ∨ z = 8) ∨ CT 32 z) h17 g7 := (f9.mono (fun z hz => Or.inl (Or.inl hz))).tr (ca9.mono (fun z hz => by rcases hz with hz | hz; exact Or.inr hz; exact Or.inl (Or.inr hz)))
    have ca5 : Fr (fun z => (z = 65 ∨ z = 8) ∨ CT 32 z) h11 g7 := ((F6.tr (F7.tr F8)).mono (fun z hz => Or.inl (Or.inr hz))).tr ca8
    have ca4 : Fr (fun z => (z = 65 ∨ z = 8) ∨ CT 32 z) h8 g7 := (F5.mono (fun z hz => Or.inl (Or.inr hz))).tr ca5
    have ca3 : Fr (fun z => (z = 65 ∨ z = 8) ∨ CT 32 z) h7 g7 := (F4.mono (fun z hz => Or.inl (Or.inr hz))).tr ca4
    have ca2 : Fr (fun z => (z = 4 ∨ z = 65 ∨ z = 8) ∨ CT 32 z) h5 g7 := (F3.mono (fun z hz => by omega)).tr (ca3.mono (fun z hz => by rcases hz with hz | hz; exact Or.inl (Or.inr hz); exact Or.inr hz))
    have ca1 : Fr (fun z => (z = 3 ∨ z = 4 ∨ z = 65 ∨ z = 8) ∨ CT 32 z) h3 g7 := (F2.mono (fun z hz => by omega)).tr (ca2.mono (fun z hz => by rcases hz with hz | hz; exact Or.inl (Or.inr hz); exact Or.inr hz))
    have ca0 : Fr (fun z => (CT 16 z ∨ z = 3 ∨ z = 4 ∨ z = 65 ∨ z = 8) ∨ CT 32 z) hE g7 := (F1.mono (fun z hz => by rcases hz with hz | hz; exact Or.inl (Or.inl hz); exact Or.inl (Or.inr (Or.inr (Or.inr (Or.inr hz)))))).tr (ca1.mono (fun z hz => by rcases hz with hz | hz; exact Or.inl (Or.inr hz); exact Or.inr hz))
    have nil8 : ∀ (h : JIH) (t a w : Nat), hc h t a (jAR K 7 8 (fun _ => none)) → hc h (t + 1) w (jA K 0 8 (fun _ => 0)) → GB K h t a w [] := fun h t a w z1 z2 => ⟨_, _, z1, z2, fun i q h => (by cases h), fun i b hb => (by cases hb), by decide⟩
    refine ⟨(c, y, ci, yi, b3, b4, tx, tl, bk, bw, ibk, ibw, tp, tpa), ⟨o8, ⟨_, _, C2.fr ca1 (fun x a b => by unfold CT; omega) (by unfold CT; omega)⟩, ⟨_, _, C4.fr cab (fun x a b => by omega) (by decide)⟩, s3.fr ca2 (by unfold CT; omega), s4.fr ca3 (by unfold CT; omega), ⟨_, c60.fr ca4 (by unfold CT; omega), fun i v h => (by cases h), by decide⟩, ⟨[], _, _, LL1.fr ca5 (by unfold CT; omega), rfl, by decide, fun i n c h => (by cases h)⟩, ?_, nil8 _ _ _ _ (c63.fr Fb (by decide)) c64, ?_, BC.c0, BC.c0, by decide⟩, ?_, by omega⟩
    · exact nil8 _ _ _ _ (c61.fr ((F7.tr F8).mono (T' := fun z => (z = 65 ∨ z = 8) ∨ CT 32 z) (fun z hz => Or.inl (Or.inr hz)) |>.tr ca8) (by unfold CT; omega)) (c62.fr (F8.mono (T' := fun z => (z = 65 ∨ z = 8) ∨ CT 32 z) (fun z hz => Or.inl (Or.inr hz)) |>.tr ca8) (by unfold CT; omega))
    · exact ⟨⟨f, c1.fr ca9 (by unfold CT; omega), hft⟩, fun i hi => ⟨none, (ht i hi).fr ca9 (by unfold CT; omega), rfl⟩⟩
    · exact ca0.mono (fun z hz => by show z ≠ 5; unfold CT at hz; omega)
  -- the loop
  have loop : ∀ (n k : Nat) (h : JIH) (tpa : Nat → Nat) (f : Nat → Option Nat), k + n = 6 → hc h 8 o (z15 (.ref c) (.ref b3) (.ref b4) (.ref tx) (.ref tl) (.ref bk) (.ref bw) (.ref tp) .null .null .null) → hc h 65 tp (jAR K 9 6 f) → (∀ i, i < k → f i = some (tpa i)) → (∀ i, i < k → hc h (70 + i) (tpa i) (jO 4 [.null])) → Fr (fun z => z = 65) h17 h → hres h ≤ hres h17 + 9 * k → J M h 84 [some (.ref o), some (.int (nI k))] [] := by
    intro n
    induction n with
    | zero =>
      intro k h tpa f hk o1 c1 hft ht f9 r9
      have e6 : k = 6 := by omega
      subst e6
      refine J.iload1 X dX0_init_84 ?_
      refine J.bipush (v := nI 6) X dX0_init_85 (by decide) ?_
      refine J.icmp_geN (tgt := 109) X dX0_init_87 (by decide) (by omega) (by omega) (fun _ => ?_) (fun q9 => absurd q9 (by omega))
      exact rest h tpa f o1 c1 hft ht f9 (by omega)
    | succ n ih =>
      intro k h tpa f hk o1 c1 hft ht f9 r9
      have hk6 : k < 6 := by omega
      refine J.iload1 X dX0_init_84 ?_
      refine J.bipush (v := nI 6) X dX0_init_85 (by decide) ?_
      refine J.icmp_geN (tgt := 109) X dX0_init_87 (by decide) (by omega) (by omega) (fun q9 => absurd q9 (by omega)) (fun _ => ?_)
      refine J.aload0 X dX0_init_90 ?_
      refine J.getf X dX0_init_91 fl_X0_55_X0 (o1.1) rfl ?_
      refine J.iload1 X dX0_init_94 ?_
      refine J.new (ci := 4) (70 + k) X dX0_init_95 jcl_4 cl_X0_53 rfl ((by show _ + (8 + 1) ≤ _; omega)) ?_
      show J M (hpush h (70 + k) (jO 4 [.null])) _ _ _
      have a1 := hc.new h (70 + k) (jO 4 [.null])
      have hlt := c1.lt
      have o2 := o1.push (70 + k) (jO 4 [.null])
      have c2 := c1.push (70 + k) (jO 4 [.null])
      have f1 : Fr (fun z => z = 65) h (hpush h (70 + k) (jO 4 [.null])) := Fr.push _ _ _ _
      have r1 : hres (hpush h (70 + k) (jO 4 [.null])) = hres h + 9 := hres_push _ _ _
      have ht2 : ∀ i, i < k → hc (hpush h (70 + k) (jO 4 [.null])) (70 + i) (tpa i) (jO 4 [.null]) := fun i hi => (ht i hi).push _ _
      generalize hpush h (70 + k) (jO 4 [.null]) = g1 at a1 o2 c2 f1 r1 ht2
      generalize hnew h = tq at a1
      refine J.dup X dX0_init_98 ?_
      refine J.callIN X dX0_init_99 lk_X0_59 ce_X4_init (tp_init F a1.1) (by decide) rfl (fun g2 e _ => ?_)
      subst e
      refine J.aastS (t := 9) X dX0_init_102 c2.1 a1.1 jcl_4 rfl rfl hk6 ?_
      have ne1 : tp ≠ o := c2.apT o2 (by decide)
      have ne2 : tp ≠ tq := c2.apT a1 (by omega)
      have ne3 : ∀ i, i < k → tp ≠ tpa i := fun i hi => c2.apT (ht2 i hi) (by omega)
      have o3 := o2.ne (jAR K 9 6 (va_up f k (some tq))) ne1
      have c3 := c2.same (jAR K 9 6 (va_up f k (some tq)))
      have a3 := a1.ne (jAR K 9 6 (va_up f k (some tq))) ne2
      have ht3 : ∀ i, i < k → hc (hset g1 tp (jAR K 9 6 (va_up f k (some tq)))) (70 + i) (tpa i) (jO 4 [.null]) := fun i hi => (ht2 i hi).ne _ (ne3 i hi)
      have f3 : Fr (fun z => z = 65) g1 (hset g1 tp (jAR K 9 6 (va_up f k (some tq)))) := Fr.set c2 rfl
      have r3 : hres (hset g1 tp (jAR K 9 6 (va_up f k (some tq)))) = hres g1 := by refine hres_setS c2 ?_; rfl
      generalize hset g1 tp (jAR K 9 6 (va_up f k (some tq))) = g3 at o3 c3 a3 ht3 f3 r3
      refine J.iinc1N (d := 1) X dX0_init_103 (by decide) ?_
      refine J.goto (tgt := 84) X dX0_init_106 (by decide) ?_
      refine ih (k + 1) g3 (fun i => if i = k then tq else tpa i) _ (by omega) o3 c3 (fun i hi => ?_) (fun i hi => ?_) (f9.tr (f1.tr f3)) (by omega)
      · rw [va_up_at]
        by_cases q : i = k
        · rw [if_pos q, if_pos q]
        · rw [if_neg q, if_neg q]; exact hft i (by omega)
      · by_cases q : i = k
        · rw [if_pos q, q]; exact a3
        · rw [if_neg q]; exact ht3 i (by omega)
  refine J.iconst (v := nI 0) X dX0_init_82 (by decide) ?_
  refine J.istore1 X dX0_init_83 ?_
  exact loop 6 0 h17 (fun _ => 0) _ rfl o12 c65 (fun i hi => by omega) (fun i hi => by omega) (Fr.rf _ _) (by omega)
