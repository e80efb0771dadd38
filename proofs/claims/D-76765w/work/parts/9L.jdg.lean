/-! SegmentedCache: firstOther, judge -/
/-- place n + at lies in a row of m: there the key k is not -/
def gfo (row : TPT) (i : Int32) : List Nat → Nat → Int32
  | [], _ => -5
  | k :: ks, n => match row with
    | none => nI (n + 100)
    | some q => if 0 ≤ i.toInt + n ∧ i.toInt + n < q.2.1 then (if q.2.2 (i.toInt + n).toNat = (nI k).toInt64 then gfo row i ks (n + 1) else nI n) else nI (n + 100)
theorem gfo_y {row : TPT} {i : Int32} {k n so m : Nat} {ks : List Nat} {vv : Nat → Int64} (h : row = some (so, m, vv)) (h0 : 0 ≤ i.toInt + n) (h1 : i.toInt + n < m) (h2 : vv (i.toInt + n).toNat = (nI k).toInt64) : gfo row i (k :: ks) n = gfo row i ks (n + 1) := by
  subst h
  show (if 0 ≤ i.toInt + n ∧ i.toInt + n < m then (if vv (i.toInt + n).toNat = (nI k).toInt64 then gfo _ i ks (n + 1) else nI n) else nI (n + 100)) = _
  rw [if_pos ⟨h0, h1⟩, if_pos h2]
theorem gfo_n {row : TPT} {i : Int32} {k n so m : Nat} {ks : List Nat} {vv : Nat → Int64} (h : row = some (so, m, vv)) (h0 : 0 ≤ i.toInt + n) (h1 : i.toInt + n < m) (h2 : ¬ vv (i.toInt + n).toNat = (nI k).toInt64) : gfo row i (k :: ks) n = nI n := by
  subst h
  show (if 0 ≤ i.toInt + n ∧ i.toInt + n < m then (if vv (i.toInt + n).toNat = (nI k).toInt64 then gfo _ i ks (n + 1) else nI n) else nI (n + 100)) = _
  rw [if_pos ⟨h0, h1⟩, if_neg h2]
theorem gfo_o {row : TPT} {i : Int32} {k n : Nat} {ks : List Nat} (h : ¬ ∃ so m vv, row = some (so, m, vv) ∧ 0 ≤ i.toInt + n ∧ i.toInt + n < m) : gfo row i (k :: ks) n = nI (n + 100) := by
  cases row with
  | none => rfl
  | some q =>
    show (if 0 ≤ i.toInt + n ∧ i.toInt + n < q.2.1 then (if q.2.2 (i.toInt + n).toNat = (nI k).toInt64 then gfo _ i ks (n + 1) else nI n) else nI (n + 100)) = _
    rw [if_neg (fun z => h ⟨q.1, q.2.1, q.2.2, rfl, z.1, z.2⟩)]
theorem pl_int (i : Int32) {n : Nat} (hn : n ≤ 400) : (i.toInt64 + (nI n).toInt64).toInt = i.toInt + n := by
  have a1 := Int32.toInt_lt i
  have a2 := Int32.le_toInt i
  rw [Int64.toInt_add, Int32.toInt_toInt64, Int32.toInt_toInt64, nI_toInt (by omega)]
  exact Int.bmod_eq_of_le (by omega) (by omega)
theorem pl_i {a : Int64} {m : Nat} (h0 : 0 ≤ a.toInt) (h1 : a.toInt < m) (hm : m ≤ 100) : a.toInt32 = nI a.toInt.toNat := by
  apply Int32.toInt_inj.mp
  rw [nI_toInt (by omega), Int64.toInt_toInt32]
  have : ((a.toInt.toNat : Nat) : Int) = a.toInt := Int.toNat_of_nonneg h0
  rw [this]
  exact Int.bmod_eq_of_le (by omega) (by omega)
set_option maxHeartbeats 400000 in
theorem x_firstOther {K : JK} {l : Launch} {hE : JIH} {o : Nat} {p : GP} {g : GA} {tz tzi : Nat} (F : JF K) (hl : l.stackTraces = false) (S : GX K hE o p g tz tzi) {j : Nat} (hj : j < 6) {r : Option Nat} (gv : GV K hE (48 + j) r (g.tp j)) (hso : ∀ so m vv, g.tp j = some (so, m, vv) → so = 1) {i : Int32} (rm : RM hE tz 100) :
    Ct K l yX0_firstOther wX0_firstOther 171 [.ref o, va_rf r, .int i] hE (jRi (fun r0 h' => r0 = gfo (g.tp j) i (g.x.1.1 1) 0 ∧ GX K h' o p g tz tzi ∧ hres h' ≤ hres hE + 60 ∧ Fr n5 hE h')) jNo := by
  have so := S.o.1
  obtain ⟨ta, D, S1⟩ := S.cc
  have co := S1.o.1
  have hB := S.bc
  have A := S1.aw
  have r8 := S1.rm8 rm
  have hi : aq 1 := ⟨by decide, by decide⟩
  have qo := S1.q hi
  obtain ⟨fs, ob⟩ := S1.mp hi
  refine st_X0_firstOther (ls := [some (.ref o), some (va_rf r), some (.int i), none, none, none, none, none]) F (by cases r <;> rfl) (hn := by cases r <;> exact Nat.le_of_ble_eq_true rfl) (body := fun M X => ?_)
  obtain ⟨P, eP, ⟨ea, ka, n, mc, S1, etz⟩, -, hG⟩ := S1
  refine J.iconst (v := nI 0) X dX0_firstOther_0 (by decide) ?_
  refine J.istore3 X dX0_firstOther_1 ?_
  refine J.aload0 X dX0_firstOther_2 ?_
  refine J.getf X dX0_firstOther_3 fl_X0_18_X0 (so) rfl ?_
  refine J.getf X dX0_firstOther_6 fl_X0_299_X1 (co) rfl ?_
  refine J.getf X dX0_firstOther_9 fl_X0_175_X2 (qo.1) rfl ?_
  refine J.callVa X dX0_firstOther_12 lk_X0_303_J2 ce_J2_keySet (c_setKey F (S1.2.2.1 1 hi) (by decide) (by omega)) (by decide) rfl (ob.1) rfl (fun r0 h1 e _ => ?_)
  obtain ⟨v, rfl, cv, L, f1, e1⟩ := e
  have S2 := S1.map hi f1 L (S1.2.2.2.2.2.1 1 · hi) (fun _ _ => rfl)
  rw [upQ_id, va_upid, va_upid, va_upid, va_upid] at S2
  refine J.callFa X dX0_firstOther_15 lk_X0_307_J37 ce_J37_iterator (c_iterKey F (S2.2.2.1 1 hi) cv.1 (by omega)) (by decide) rfl (cv.1) rfl (fun r0 h2 e _ => ?_)
  obtain ⟨rfl, e2⟩ := e
  have f2 := Fr.push (fun x => x = 6) h1 6 (jO 23 (itO (Option.map (ea 1) (g.x.1.1 1).head?) none (mc 1) (p.y.2.1 1)))
  have ci := hc.new h1 6 (jO 23 (itO (Option.map (ea 1) (g.x.1.1 1).head?) none (mc 1) (p.y.2.1 1)))
  have e3 := hres_push h1 6 (jO 23 (itO (Option.map (ea 1) (g.x.1.1 1).head?) none (mc 1) (p.y.2.1 1)))
  rw [← e2] at f2 ci e3
  have S3 := S2.fr f2 (b6 (Or.inl rfl)) (by decide)
  have ff : Fr (CT 16) hE h2 := (f1.mono (fun x hx => by rw [hx]; exact CT.q hi)).tr (f2.mono (fun x hx => Or.inr hx))
  have ee : hres h2 ≤ hres hE + 23 := by
    have : esz (jO 23 (itO (Option.map (ea 1) (g.x.1.1 1).head?) none (mc 1) (p.y.2.1 1))) = 5 := rfl
    rw [e3, this]
    omega
  clear e2 e3 S2 L
  generalize hnew h1 = it at ci
  have hlen : (g.x.1.1 1).length ≤ 400 := nodup_lt (A.2.1 1 hi) (fun k hk => (A.2.2 1 k hi hk).1)
  refine J.astore4 X dX0_firstOther_20 ?_
  suffices loop : ∀ (r1 p1 : List Nat) (h : JIH) (cur : Option Nat) (x5 x6 : Option Value), g.x.1.1 1 = p1 ++ r1 → gfo (g.tp j) i (g.x.1.1 1) 0 = gfo (g.tp j) i r1 p1.length → CI K 16 h p.c p.y g.x.1 g.x.2.1 P (wS g.x.1) (bS g.x.1) ta D ea ka n mc → hc h 6 it (jO 23 (itO (Option.map (ea 1) r1.head?) cur (mc 1) (p.y.2.1 1))) → Fr (CT 16) hE h → hres h ≤ hres hE + 23 → jcat x5 = true → J M h 22 [some (.ref o), some (va_rf r), some (.int i), some (.int (nI p1.length)), some (.ref it), x5, x6, none] [] from loop (g.x.1.1 1) [] h2 none none none rfl rfl S3 ci ff ee rfl
  clear S3 ci ff ee f1 f2 e1 cv S1
  intro r1
  induction r1 with
  | nil =>
    intro p1 h cur x5 x6 hl1 eG S1 ci ff ee hx5
    have X1 := S.up0 (x' := g.x) ff (fun z hz => Or.inl hz) ⟨ta, D, P, eP, ⟨ea, ka, n, mc, S1, etz⟩, A, hG⟩ hB
    refine J.aload4 X dX0_firstOther_22 ?_
    refine J.callFi X dX0_firstOther_24 lk_X0_205_J13 ce_J11_hasNext (it_hasKey F ci.1) (by decide) rfl (ci.1) rfl (fun r' h' e _ => ?_)
    obtain ⟨rfl, rfl⟩ := e
    refine J.if_eqB (tgt := 98) X dX0_firstOther_29 (by decide) (fun _ => ?_) (fun q9 => absurd q9 (fun h => by cases h))
    refine J.bipush (v := -5) X dX0_firstOther_98 (by decide) ?_
    refine J.ireturn X dX0_firstOther_100 (jRi.of ?_)
    exact ⟨eG.symm, X1, by omega, ff.mono (fun z hz => CT.n5 hz (Or.inl rfl))⟩
  | cons k r1 ih =>
    intro p1 h cur x5 x6 hl1 eG S1 ci ff ee hx5
    have hk : k ∈ g.x.1.1 1 := by rw [hl1]; exact List.mem_append_right _ List.mem_cons_self
    have hp1 : p1.length < 400 := by rw [hl1, List.length_append, List.length_cons] at hlen; omega
    refine J.aload4 X dX0_firstOther_22 ?_
    refine J.callFi X dX0_firstOther_24 lk_X0_205_J13 ce_J11_hasNext (it_hasKey F ci.1) (by decide) rfl (ci.1) rfl (fun r' h' e _ => ?_)
    obtain ⟨rfl, rfl⟩ := e
    refine J.if_eqB (tgt := 98) X dX0_firstOther_29 (by decide) (fun q9 => absurd q9 (fun h => h rfl)) (fun _ => ?_)
    refine J.aload4 X dX0_firstOther_32 ?_
    refine J.callFa X dX0_firstOther_34 lk_X0_211_J13 ce_J13_next (c_nextKey F (S1.2.2.1 1 hi) hl1 ci.1) (by decide) rfl (ci.1) rfl (fun r' h' e _ => ?_)
    obtain ⟨rfl, e2⟩ := e
    have f2 : Fr (fun x => x = 6) h (hset h it (jO 23 (itO (Option.map (ea 1) r1.head?) (some (ea 1 k)) (mc 1) (p.y.2.1 1)))) := Fr.set ci rfl
    have e3 : hres (hset h it (jO 23 (itO (Option.map (ea 1) r1.head?) (some (ea 1 k)) (mc 1) (p.y.2.1 1)))) = hres h := by refine hres_setS ci ?_; rfl
    replace ci := ci.same (jO 23 (itO (Option.map (ea 1) r1.head?) (some (ea 1 k)) (mc 1) (p.y.2.1 1)))
    rw [← e2] at f2 e3 ci
    clear e2
    replace S1 := S1.fr f2 (b6 (Or.inl rfl)) (by decide)
    replace ff := ff.tr (f2.mono (fun x hx => Or.inr hx))
    have gk : IsKey h' (ka 1 k) k := (S1.2.2.1 1 hi).key hk
    have endX : ∀ (h9 : JIH), Fr (fun z => z = 9) h' h9 → hres h9 ≤ hres h' + 16 → GX K h9 o p g tz tzi ∧ hres h9 ≤ hres hE + 60 ∧ Fr n5 hE h9 := by
      intro h9 f9 r9
      have S9 := S1.fr f9 (fun x a b => by omega) (by decide)
      have f8 : Fr (fun z => CT 16 z ∨ z = 7 ∨ z = 9) hE h9 := (ff.mono (fun z hz => Or.inl hz)).tr (f9.mono (fun z hz => Or.inr (Or.inr hz)))
      exact ⟨S.up0 (x' := g.x) f8 (fun z hz => hz) ⟨ta, D, P, eP, ⟨ea, ka, n, mc, S9, etz⟩, A, hG⟩ hB, by omega, f8.mono (fun z hz => by rcases hz with hz | hz; exact CT.n5 hz (Or.inl rfl); show z ≠ 5; omega)⟩
    refine J.castS X dX0_firstOther_39 cl_X0_43 jcl_8 (gk.2.1) ?_
    refine J.astore5 X dX0_firstOther_42 ?_
    refine J.iload2 X dX0_firstOther_44 ?_
    refine J.i2l X dX0_firstOther_45 ?_
    refine J.iload3 X dX0_firstOther_46 ?_
    refine J.i2l X dX0_firstOther_47 ?_
    refine J.ladd X dX0_firstOther_48 ?_
    refine J.lstore6 X dX0_firstOther_49 ?_
    refine J.lload6 X dX0_firstOther_51 ?_
    have gv1 := gv.fr ff (fun hz => by unfold CT at hz; omega)
    cases r with
    | none =>
      have et : g.tp j = none := gv
      have eR : gfo (g.tp j) i (g.x.1.1 1) 0 = nI (p1.length + 100) := by
        rw [eG]
        exact gfo_o (fun ⟨_, _, _, e, _⟩ => by rw [et] at e; cases e)
      refine J.aload1 X dX0_firstOther_53 ?_
      refine J.alenN X dX0_firstOther_54 (JNn.go X hl (ex_Npe F) (by decide) (by omega) (fun zs x z1 z2 => ?_))
      refine JT.catch (a := 2) (b := 91) (t := 101) (ct := 313) X [] [(92, 100, 101, 313), (2, 91, 108, 245), (92, 100, 108, 245)] rfl (fun z hz => by cases hz) (by decide) (by decide) q2602 q1926 ?_
      refine J.astore4 X dX0_firstOther_101 ?_
      refine J.iload3 X dX0_firstOther_103 ?_
      refine J.bipush (v := nI 100) X dX0_firstOther_104 (by decide) ?_
      refine J.iaddN X dX0_firstOther_106 ?_
      refine J.ireturn X dX0_firstOther_107 (jRi.of ?_)
      exact ⟨eR.symm, endX _ (Fr.jk _ _ _) (by rw [hjk_res]; omega)⟩
    | some a =>
      obtain ⟨so', m, vv, et, hm, hv⟩ := gv1
      have eso := hso so' m vv et
      subst eso
      rcases hv with ⟨e, -⟩ | ⟨-, f, ca, hv⟩ | ⟨e, -⟩ | ⟨e, -⟩ | ⟨e, -⟩
      · exact absurd e (by decide)
      rotate_left
      · exact absurd e (by decide)
      · exact absurd e (by decide)
      · exact absurd e (by decide)
      have hpl := pl_int i (n := p1.length) (by omega)
      -- thrown there
      have out : ¬ (0 ≤ i.toInt + p1.length ∧ i.toInt + p1.length < m) → J M h' 67 [some (.ref o), some (.ref a), some (.int i), some (.int (nI p1.length)), some (.ref it), some (.ref (ka 1 k)), some (.long (i.toInt64 + (nI p1.length).toInt64)), none] [] := by
        intro hno
        have eR : gfo (g.tp j) i (g.x.1.1 1) 0 = nI (p1.length + 100) := by
          rw [eG]
          exact gfo_o (fun ⟨_, _, _, e, z1, z2⟩ => by rw [et] at e; cases e; exact hno ⟨z1, z2⟩)
        refine J.off (n := -13) 9 X hl dX0_firstOther_67 dX0_firstOther_70 cl_X0_245 (JArg.bipush X dX0_firstOther_71 (by decide)) dX0_firstOther_73 lk_X0_310 (by decide) (by omega) (fun fs k1 k2 => ?_)
        refine J.athrow X dX0_firstOther_76 jcl_11 (hget_push_new _ _ _) ?_
        refine JT.catch (a := 2) (b := 91) (t := 108) (ct := 245) X [(2, 91, 101, 313), (92, 100, 101, 313)] [(92, 100, 108, 245)] rfl (fun z hz => ?_) (by decide) (by decide) cl_X0_245 q2296 ?_
        · rcases List.mem_cons.mp hz with rfl | hz
          · exact Or.inr ⟨by decide, _, q2602, nx_OffNpe F⟩
          · cases List.mem_singleton.mp hz
            exact Or.inl (by decide)
        refine J.astore4 X dX0_firstOther_108 ?_
        refine J.iload3 X dX0_firstOther_110 ?_
        refine J.bipush (v := nI 100) X dX0_firstOther_111 (by decide) ?_
        refine J.iaddN X dX0_firstOther_113 ?_
        refine J.ireturn X dX0_firstOther_114 (jRi.of ?_)
        exact ⟨eR.symm, endX _ (Fr.push _ _ _ _) (by rw [hres_push]; show _ + (8 + fs.length) ≤ _; omega)⟩
      show J M h' 53 [some (.ref o), some (.ref a), some (.int i), some (.int (nI p1.length)), some (.ref it), some (.ref (ka 1 k)), some (.long (i.toInt64 + (nI p1.length).toInt64)), none] [.long (i.toInt64 + (nI p1.length).toInt64)]
      refine J.aload1 X dX0_firstOther_53 ?_
      refine J.alen (t := 2) X dX0_firstOther_54 ca.1 rfl rfl ?_
      refine J.i2l X dX0_firstOther_55 ?_
      refine J.topl (nI_l (show m < 2147483648 by omega)) ?_
      refine J.lcmp X dX0_firstOther_56 ?_
      refine J.if_ge (tgt := 67) X dX0_firstOther_57 (by decide) (fun c1 => ?_) (fun c1 => ?_)
      · skip
        have c1' := Int64.le_iff_toInt_le.mp ((lg_cmp_ge _ _).mp c1)
        rw [hpl, lN_toInt (by omega)] at c1'
        exact out (by omega)
      · skip
        have c1' := fun z => c1 ((lg_cmp_ge _ _).mpr (Int64.le_iff_toInt_le.mpr z))
        rw [hpl, lN_toInt (by omega)] at c1'
        replace c1' : ¬ ((m : Int) ≤ i.toInt + p1.length) := c1'
        refine J.lload6 X dX0_firstOther_60 ?_
        refine J.lconst (v := 0) X dX0_firstOther_62 (by decide) ?_
        refine J.lcmp X dX0_firstOther_63 ?_
        refine J.if_ge (tgt := 77) X dX0_firstOther_64 (by decide) (fun c2 => ?_) (fun c2 => ?_)
        · skip
          have c2' := Int64.le_iff_toInt_le.mp ((lg_cmp_ge _ _).mp c2)
          rw [hpl] at c2'
          have c2'' : 0 ≤ i.toInt + p1.length := c2'
          refine J.aload1 X dX0_firstOther_77 ?_
          refine J.lload6 X dX0_firstOther_78 ?_
          refine J.l2i X dX0_firstOther_80 ?_
          have hidx : (i.toInt64 + (nI p1.length).toInt64).toInt32 = nI (i.toInt + p1.length).toNat := by
            rw [pl_i (m := m) (by rw [hpl]; exact c2'') (by rw [hpl]; omega) (by omega), hpl]
          refine J.sald X dX0_firstOther_81 ca.1 hidx (by omega) ?_
          have e9 := (hv (i.toInt + p1.length).toNat (by omega)).1
          refine J.aload5 X dX0_firstOther_82 ?_
          refine J.callVi X dX0_firstOther_84 lk_X0_215_X8 ce_X8_told (key_told F gk) (by decide) rfl (gk.2.1) rfl (fun r2 h3 e _ => ?_)
          obtain ⟨rfl, rfl⟩ := e
          refine J.icmp_eq (tgt := 92) X dX0_firstOther_87 (by decide) (fun c3 => ?_) (fun c3 => ?_)
          · skip
            refine J.iinc3N (d := 1) X dX0_firstOther_92 (by decide) ?_
            refine J.goto (tgt := 22) X dX0_firstOther_95 (by decide) ?_
            have hI := ih (p1 ++ [k]) h' (some (ea 1 k)) (some (.ref (ka 1 k))) (some (.long (i.toInt64 + (nI p1.length).toInt64))) (by rw [hl1, List.append_assoc]; rfl) (by rw [eG, gfo_y et c2'' (by omega) (by rw [e9, show f (i.toInt + p1.length).toNat = nI k from c3]), List.length_append]; rfl) S1 ci ff (by omega) rfl
            rw [List.length_append] at hI
            exact hI
          · skip
            refine J.iload3 X dX0_firstOther_90 ?_
            refine J.ireturn X dX0_firstOther_91 (jRi.of ?_)
            refine ⟨?_, endX h' (Fr.rf _ _) (by omega)⟩
            rw [eG, gfo_n et c2'' (by omega) (fun z => c3 (by rw [e9] at z; exact Int32.toInt_inj.mp (by rw [← Int32.toInt_toInt64, z, Int32.toInt_toInt64])))]
        · skip
          have c2' := fun z => c2 ((lg_cmp_ge _ _).mpr (Int64.le_iff_toInt_le.mpr z))
          rw [hpl] at c2'
          exact out (fun z => c2' z.1)
def gjudge (g : GA) (t i r : Int32) : Prop := (¬ ((0 : Int32) ≤ t ∧ t ≤ 5) ∧ r = -1) ∨ ∃ j, j < 6 ∧ t = nI j ∧ ((∃ so m vv, g.tp j = some (so, m, vv) ∧ so ≠ 1 ∧ r = -12) ∨ ((∀ so m vv, g.tp j = some (so, m, vv) → so = 1) ∧ r = gfo (g.tp j) i (g.x.1.1 1) 0))
