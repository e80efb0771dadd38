/-! the Reader: clauses, the whole trace -/
theorem rNx_l {t : List Nat} {lo hi i j : Nat} (h : rNx t lo hi i = .inl j) : j = i := by
  by_cases q : ∃ c, t[i]? = some c ∧ (lo ≤ c ∧ c ≤ hi)
  · obtain ⟨c, e, h1, h2⟩ := q
    rw [rNx_t e h1 h2] at h
    cases h
  · rw [rNx_f (fun c e z => q ⟨c, e, z⟩)] at h
    exact (Sum.inl.inj h).symm
theorem bI_some {o : Option Nat} {v : Nat} (hv : v ≤ 127) (ho : ∀ c, o = some c → c < 128) : bI o = nI v ↔ o = some v := by
  cases o with
  | none => exact ⟨fun z => absurd (show nI v < 0 by rw [← z]; decide) (nI_pos (by omega)), fun z => by cases z⟩
  | some c =>
    have hc := ho c rfl
    exact ⟨fun z => by rw [nI_inj (by omega) (by omega) (show nI c = nI v from z)], fun z => by cases z; rfl⟩
def clPost (K : JK) (hE : JIH) (q tx ll : Nat) (t : List Nat) (x : RR Cl) (r : Option Nat) (h' : JIH) : Prop := ∃ c j a b, x = .inr (c, j) ∧ r = some a ∧ clok c ∧ hc h' 12 a (jO 10 [.int (nI c.1), .int (nI c.2.2), .ref b]) ∧ IsKey h' b c.2.1 ∧ hc h' 9 q (rdO tx t.length j ll) ∧ j ≤ t.length ∧ Fr (fun z => z = 9) hE h' ∧ hres h' = hres hE + 21
theorem rd_clause {K : JK} {l : Launch} {hE : JIH} (F : JF K) (hl : l.stackTraces = false) {q tx i ll : Nat} {t : List Nat} (c : hc hE 9 q (rdO tx t.length i ll)) (g : GT K hE tx t) (hi100 : i ≤ t.length) (rm : hres hE + 40 ≤ jRL) :
    Ct K l yX9_clause wX9_clause 13 [.ref q] hE (jRa (fun r h' => clPost K hE q tx ll t (rCl t i) r h')) (rdX (fun z => z = 9) hE (fun pl => rCl t i = .inl pl) 36) := by
  have h100 : t.length ≤ 100 := by obtain ⟨f, ca, hf, h⟩ := g; exact h
  have h128 : ∀ c, t[i]? = some c → c < 128 := by obtain ⟨f, ca, hf, h⟩ := g; exact fun c e => (hf _ c e).2
  refine st_X9_clause (ls := [some (.ref q), none, none]) F rfl (body := fun M X => ?_)
  refine J.aload0 X dX9_clause_0 ?_
  refine J.callVi X dX9_clause_1 lk_X9_29_X9 ce_X9_here (rd_here F c g (by omega)) (by decide) rfl (c.1) rfl (fun r h1 e _ => ?_)
  obtain ⟨rfl, rfl⟩ := e
  refine J.istore1 X dX9_clause_4 ?_
  refine J.iload1 X dX9_clause_5 ?_
  -- g and x
  have gx : ∀ v, (v = 103 ∨ v = 120) → t[i]? = some v → rCl t i = rbind (rKey t (i + 1)) (fun k j => .inr ((v, k, 0), j)) → J M hE 40 [some (.ref q), some (.int (nI v)), none] [] := by
    intro v hv ev eC
    have hlt := (List.getElem?_eq_some_iff.mp ev).1
    refine J.aload0 X dX9_clause_40 ?_
    refine J.dup X dX9_clause_41 ?_
    refine J.getf X dX9_clause_42 fl_X9_26_X9 (c.1) rfl ?_
    refine J.iconst (v := nI 1) X dX9_clause_45 (by decide) ?_
    refine J.iaddN X dX9_clause_46 ?_
    refine J.putf X dX9_clause_47 (pl_X9_26_X9 _) c.1 (Nat.le_of_ble_eq_true rfl) rfl rfl ?_
    have c1 := c.same (rdO tx t.length (i + 1) ll)
    have f1 : Fr (fun z => z = 9) hE (hset hE q (rdO tx t.length (i + 1) ll)) := Fr.set c rfl
    have r1 : hres (hset hE q (rdO tx t.length (i + 1) ll)) = hres hE := by refine hres_setS c ?_; rfl
    show J M (hset hE q (rdO tx t.length (i + 1) ll)) _ _ _
    generalize hset hE q (rdO tx t.length (i + 1) ll) = h1 at c1 f1 r1
    refine J.new (ci := 10) (12) X dX9_clause_50 jcl_10 cl_X9_51 rfl ((by show _ + (8 + 3) ≤ _; omega)) ?_
    show J M (hpush h1 12 (jO 10 [.int 0, .int 0, .null])) _ _ _
    have c2 := c1.push 12 (jO 10 [.int 0, .int 0, .null])
    have cn := hc.new h1 12 (jO 10 [.int 0, .int 0, .null])
    have f2 : Fr (fun z => z = 9) h1 (hpush h1 12 (jO 10 [.int 0, .int 0, .null])) := Fr.push _ _ _ _
    have r2 : hres (hpush h1 12 (jO 10 [.int 0, .int 0, .null])) = hres h1 + 11 := hres_push _ _ _
    have hge : hnew hE ≤ hnew h1 := f1.2.1
    generalize hpush h1 12 (jO 10 [.int 0, .int 0, .null]) = h2 at c2 cn f2 r2
    generalize hnew h1 = cc at cn hge
    have f12 := f1.tr f2
    refine J.dup X dX9_clause_53 ?_
    refine J.iload1 X dX9_clause_54 ?_
    refine J.aload0 X dX9_clause_55 ?_
    refine J.callVaX X dX9_clause_56 lk_X9_53_X9 ce_X9_key (rd_key F hl c2 (g.fr f12 (by decide)) (by omega) (by omega)) (by decide) rfl (c2.1) rfl (fun r h3 z _ => ?_) (fun x E h3 z _ => ?_)
    rotate_left
    · exact JT.out X (fun z hz => by cases hz) (z.up f12 (fun _ z => z) (fun pl e => by rw [eC, e]; rfl) (by omega))
    obtain ⟨k, j, a, e3, rfl, gk, c3, hj, f3, r3⟩ := z
    have cn3 := cn.fr f3 (by decide)
    refine J.callI X dX9_clause_59 lk_X9_57 ce_X10_init (cl_init1 F cn3.1 (nI v)) (by decide) rfl (fun h4 e _ => ?_)
    subst e
    refine J.areturnO X dX9_clause_62 (jRa.ofR ?_)
    have f4 := (f12.tr f3).setN (jO 10 [.int (nI v), .int (nI 0), .ref a]) hge
    have ne1 : cc ≠ q := cn3.apT c3 (by decide)
    have ne2 : cc ≠ a := cn3.apT gk.2 (by decide)
    refine ⟨(v, k, 0), j, cc, a, by rw [eC, e3]; rfl, rfl, ⟨by omega, gk.1, fun z => by omega, Nat.zero_le _⟩, cn3.same _, ⟨gk.1, gk.2.ne _ ne2⟩, c3.ne _ ne1, hj, f4, ?_⟩
    refine (hres_setS cn3 ?_).trans ?_
    · rfl
    · omega
  by_cases k1 : t[i]? = some 103
  · rw [k1]
    refine J.lsw (tgt := 40) X dX9_clause_6 (by decide) (off := 34) (by decide) (by decide) ?_
    exact gx 103 (Or.inl rfl) k1 (if_pos k1)
  by_cases k2 : t[i]? = some 120
  · rw [k2]
    refine J.lsw (tgt := 40) X dX9_clause_6 (by decide) (off := 34) (by decide) (by decide) ?_
    exact gx 120 (Or.inr rfl) k2 ((if_neg k1).trans (if_pos k2))
  by_cases k3 : t[i]? = some 112
  · have eC : rCl t i = rbind (rKey t (i + 1)) (fun k j => rbind (rNx t 61 61 j) fun _ j2 => rbind (rNx t 49 57 j2) fun w j3 => .inr ((112, k, w + 1), j3)) := (if_neg k1).trans ((if_neg k2).trans (if_pos k3))
    have hlt := (List.getElem?_eq_some_iff.mp k3).1
    rw [k3]
    refine J.lsw (tgt := 63) X dX9_clause_6 (by decide) (off := 57) (by decide) (by decide) ?_
    show J M hE 63 [some (.ref q), some (.int (nI 112)), none] []
    refine J.aload0 X dX9_clause_63 ?_
    refine J.dup X dX9_clause_64 ?_
    refine J.getf X dX9_clause_65 fl_X9_26_X9 (c.1) rfl ?_
    refine J.iconst (v := nI 1) X dX9_clause_68 (by decide) ?_
    refine J.iaddN X dX9_clause_69 ?_
    refine J.putf X dX9_clause_70 (pl_X9_26_X9 _) c.1 (Nat.le_of_ble_eq_true rfl) rfl rfl ?_
    have c1 := c.same (rdO tx t.length (i + 1) ll)
    have f1 : Fr (fun z => z = 9) hE (hset hE q (rdO tx t.length (i + 1) ll)) := Fr.set c rfl
    have r1 : hres (hset hE q (rdO tx t.length (i + 1) ll)) = hres hE := by refine hres_setS c ?_; rfl
    show J M (hset hE q (rdO tx t.length (i + 1) ll)) _ _ _
    generalize hset hE q (rdO tx t.length (i + 1) ll) = h1 at c1 f1 r1
    refine J.aload0 X dX9_clause_73 ?_
    refine J.callVaX X dX9_clause_74 lk_X9_53_X9 ce_X9_key (rd_key F hl c1 (g.fr f1 (by decide)) (by omega) (by omega)) (by decide) rfl (c1.1) rfl (fun r h3 z _ => ?_) (fun x E h3 z _ => ?_)
    rotate_left
    · exact JT.out X (fun z hz => by cases hz) (z.up f1 (fun _ z => z) (fun pl e => by rw [eC, e]; rfl) (by omega))
    obtain ⟨k, j, a, e3, rfl, gk, c3, hj, f3, r3⟩ := z
    have f13 := f1.tr f3
    refine J.astore2 X dX9_clause_77 ?_
    refine J.aload0 X dX9_clause_78 ?_
    refine J.bipush (v := nI 61) X dX9_clause_79 (by decide) ?_
    refine J.bipush (v := nI 61) X dX9_clause_81 (by decide) ?_
    refine J.callViX X dX9_clause_83 lk_X9_42_X9 ce_X9_next (rd_next F hl c3 (g.fr f13 (by decide)) (by omega) (lo := 61) (hi := 61) (by decide) (by decide) (by omega)) (by decide) rfl (c3.1) rfl (fun r h4 z _ => ?_) (fun x E h4 z _ => ?_)
    rotate_left
    · exact JT.out X (fun z hz => by cases hz) (z.up f13 (fun _ z => z) (fun pl e => by rw [eC, e3]; show rbind (rNx t 61 61 j) _ = _; rw [e]; rfl) (by omega))
    obtain ⟨v4, j4, e4, rfl, c4, f4, r4⟩ := z
    obtain ⟨b4, rfl, d4⟩ := rNx_b e4
    have f14 := f13.tr f4
    have gk4 := gk.fr f4 (by decide)
    refine J.pop X dX9_clause_86 ?_
    refine J.new (ci := 10) (12) X dX9_clause_87 jcl_10 cl_X9_51 rfl ((by show _ + (8 + 3) ≤ _; omega)) ?_
    show J M (hpush h4 12 (jO 10 [.int 0, .int 0, .null])) _ _ _
    have c5 := c4.push 12 (jO 10 [.int 0, .int 0, .null])
    have cn := hc.new h4 12 (jO 10 [.int 0, .int 0, .null])
    have f5 : Fr (fun z => z = 9) h4 (hpush h4 12 (jO 10 [.int 0, .int 0, .null])) := Fr.push _ _ _ _
    have r5 : hres (hpush h4 12 (jO 10 [.int 0, .int 0, .null])) = hres h4 + 11 := hres_push _ _ _
    have hge : hnew hE ≤ hnew h4 := f14.2.1
    generalize hpush h4 12 (jO 10 [.int 0, .int 0, .null]) = h5 at c5 cn f5 r5
    generalize hnew h4 = cc at cn hge
    have f15 := f14.tr f5
    have gk5 := gk4.fr f5 (by decide)
    refine J.dup X dX9_clause_90 ?_
    refine J.iload1 X dX9_clause_91 ?_
    refine J.aload2 X dX9_clause_92 ?_
    refine J.aload0 X dX9_clause_93 ?_
    refine J.bipush (v := nI 49) X dX9_clause_94 (by decide) ?_
    refine J.bipush (v := nI 57) X dX9_clause_96 (by decide) ?_
    refine J.callViX X dX9_clause_98 lk_X9_42_X9 ce_X9_next (rd_next F hl c5 (g.fr f15 (by decide)) (by omega) (lo := 49) (hi := 57) (by decide) (by decide) (by omega)) (by decide) rfl (c5.1) rfl (fun r h6 z _ => ?_) (fun x E h6 z _ => ?_)
    rotate_left
    · exact JT.out X (fun z hz => by cases hz) (z.up f15 (fun _ z => z) (fun pl e => by rw [eC, e3]; show rbind (rNx t 61 61 j) _ = _; rw [e4]; show rbind (rNx t 49 57 (j + 1)) _ = _; rw [e]; rfl) (by omega))
    obtain ⟨v6, j6, e6, rfl, c6, f6, r6⟩ := z
    obtain ⟨b6, rfl, d6⟩ := rNx_b e6
    have gk6 := gk5.fr f6 (by decide)
    have cn6 := cn.fr f6 (by decide)
    refine J.iconst (v := nI 1) X dX9_clause_101 (by decide) ?_
    refine J.iaddN X dX9_clause_102 ?_
    refine J.callI X dX9_clause_103 lk_X9_60 ce_X10_init_2 (cl_init F cn6.1 (nI 112) (nI (v6 + 1))) (by decide) rfl (fun h7 e _ => ?_)
    subst e
    refine J.areturnO X dX9_clause_106 (jRa.ofR ?_)
    have f7 := (f15.tr f6).setN (jO 10 [.int (nI 112), .int (nI (v6 + 1)), .ref a]) hge
    have ne1 : cc ≠ q := cn6.apT c6 (by decide)
    have ne2 : cc ≠ a := cn6.apT gk6.2 (by decide)
    refine ⟨(112, k, v6 + 1), j + 1 + 1, cc, a, by rw [eC, e3]; show rbind (rNx t 61 61 j) _ = _; rw [e4]; show rbind (rNx t 49 57 (j + 1)) _ = _; rw [e6]; rfl, rfl, ⟨Or.inr (Or.inl rfl), gk6.1, fun _ => ⟨by show 1 ≤ v6 + 1; omega, by show v6 + 1 ≤ 9; omega⟩, by show v6 + 1 ≤ 9; omega⟩, cn6.same _, ⟨gk6.1, gk6.2.ne _ ne2⟩, c6.ne _ ne1, by omega, f7, ?_⟩
    refine (hres_setS cn6 ?_).trans ?_
    · rfl
    · omega
  have eC : rCl t i = .inl i := (if_neg k1).trans ((if_neg k2).trans (if_neg k3))
  have hoff : Op.lookupswitch.offset [((103 : Int), (34 : Int)), (112, 57), (120, 34)] 101 (bI t[i]?).toInt = 101 := by
    have n1 : ¬ bI t[i]? = nI 103 := fun z => k1 ((bI_some (by decide) h128).mp z)
    have n2 : ¬ bI t[i]? = nI 112 := fun z => k3 ((bI_some (by decide) h128).mp z)
    have n3 : ¬ bI t[i]? = nI 120 := fun z => k2 ((bI_some (by decide) h128).mp z)
    have m1 : ¬ (bI t[i]?).toInt = 103 := fun z => n1 (Int32.toInt_inj.mp z)
    have m2 : ¬ (bI t[i]?).toInt = 112 := fun z => n2 (Int32.toInt_inj.mp z)
    have m3 : ¬ (bI t[i]?).toInt = 120 := fun z => n3 (Int32.toInt_inj.mp z)
    simp [Op.lookupswitch.offset, m1, m2, m3, Ne.symm m1, Ne.symm m2, Ne.symm m3, eq_comm]
  refine J.lsw (tgt := 107) X dX9_clause_6 (by decide) (off := 101) hoff (by decide) ?_
  refine J.off (n := nI i) 9 X hl dX9_clause_107 dX9_clause_110 cl_X9_37 (JArg.fld X dX9_clause_111 dX9_clause_112 fl_X9_26_X9 (hget_push _ _ c.1) rfl) dX9_clause_115 lk_X9_39 (by decide) (by omega) (fun fs f1 f2 => ?_)
  refine J.athrow X dX9_clause_118 jcl_11 (hget_push_new _ _ _) ?_
  exact JT.out X (fun z hz => by cases hz) ⟨rfl, i, fs, eC, hc.new _ _ _, f2, Fr.push _ _ _ _, by rw [hres_push]; show _ + (8 + fs.length) ≤ _; omega⟩
/-- a clause more in a list -/
theorem TR.add {tt : Nat} {h h' : JIH} {l x : Nat} {cl : List Cl} {c : Cl} {a : Nat} {ns : List Nat} {it : Nat → Nat} {mc : Int32} (hq : ∀ (j n : Nat) (q : Cl), ns[j]? = some n → cl[j]? = some q → clok q ∧ ∃ a, hc h 12 (it n) (jO 10 [.int (nI q.1), .int (nI q.2.2), .ref a]) ∧ IsKey h a q.2.1) (hn : ns.length = cl.length) (hcl : cl.length < 20) (ok : clok c) (hx : hc h 12 x (jO 10 [.int (nI c.1), .int (nI c.2.2), .ref a])) (hk : IsKey h a c.2.1) (hnd : ∀ n ∈ ns, n < hnew h) (f : Fr (fun y => y = tt) h h') (h1 : tt ≠ 1) (h12 : tt ≠ 12) (L : LL tt h' l (ns ++ [hnew h]) (va_up it (hnew h) x) (mc + nI 1)) : TR tt h' l (cl ++ [c]) := by
  refine ⟨_, _, _, L, by simp [hn], fun j n q e1 e2 => ?_, by simp; omega⟩
  by_cases hj : j < cl.length
  · rw [List.getElem?_append_left (by omega)] at e1
    rw [List.getElem?_append_left hj] at e2
    obtain ⟨z1, b, z2, z3⟩ := hq j n q e1 e2
    have hlt := hnd n (List.mem_of_getElem? e1)
    rw [va_up_at, if_neg (by omega)]
    exact ⟨z1, b, z2.fr f h12.symm, z3.fr f h1.symm⟩
  · have e2' := (List.getElem?_eq_some_iff.mp e2).1
    have hj2 : j = cl.length := by simp at e2'; omega
    subst hj2
    rw [List.getElem?_append_right (by omega), hn, Nat.sub_self] at e1
    rw [List.getElem?_append_right (Nat.le_refl _), Nat.sub_self] at e2
    cases e1
    cases e2
    rw [va_up_at, if_pos rfl]
    exact ⟨ok, a, hx.fr f h12.symm, hk.fr f h1.symm⟩
theorem LL.lt {t : Nat} {h : JIH} {l : Nat} {ns : List Nat} {it : Nat → Nat} {mc : Int32} (S : LL t h l ns it mc) : ∀ n ∈ ns, n < hnew h := by
  obtain ⟨nx, pv, -, h2, -⟩ := S
  exact fun n hn => (h2 n hn).lt
def whPost (tt : Nat) (hE : JIH) (ll : Nat) (x : RR (List Cl)) (r : Option Nat) (h' : JIH) : Prop := ∃ cl j, x = .inr (cl, j) ∧ r = some ll ∧ TR tt h' ll cl ∧ Fr (fun z => z = 9 ∨ z = tt) hE h' ∧ hres h' ≤ hres hE + 640
theorem rd_whole {K : JK} {l : Launch} {hE : JIH} (F : JF K) (hl : l.stackTraces = false) {q tx ll tt : Nat} {t : List Nat} (c : hc hE 9 q (rdO tx t.length 0 ll)) (g : GT K hE tx t) (T : TR tt hE ll []) (htt : 76 ≤ tt) (rm : hres hE + 720 ≤ jRL) :
    Ct K l yX9_whole wX9_whole 14 [.ref q] hE (jRa (fun r h' => whPost tt hE ll (rAll t) r h')) (rdX (fun z => z = 9 ∨ z = tt) hE (fun pl => rAll t = .inl pl) 680) := by
  have h100 : t.length ≤ 100 := by obtain ⟨f, ca, hf, h⟩ := g; exact h
  have h128 : ∀ (i c : Nat), t[i]? = some c → c < 128 := by obtain ⟨f, ca, hf, h⟩ := g; exact fun i c e => (hf _ c e).2
  refine st_X9_whole (ls := [some (.ref q)]) F rfl (body := fun M X => ?_)
  -- the clause at i is read and added
  have one : ∀ (pc9 i : Nat) (cl : List Cl) (h1 : JIH), (pc9 = 0 ∨ pc9 = 43) → i ≤ t.length → cl.length < 20 → hc h1 9 q (rdO tx t.length i ll) → TR tt h1 ll cl → Fr (fun z => z = 9 ∨ z = tt) hE h1 → hres h1 ≤ hres hE + 32 * cl.length →
      (∀ pl, rCl t i = .inl pl → rAll t = .inl pl) →
      (∀ (c9 : Cl) (j : Nat) (h2 : JIH), rCl t i = .inr (c9, j) → j ≤ t.length → hc h2 9 q (rdO tx t.length j ll) → TR tt h2 ll (cl ++ [c9]) → Fr (fun z => z = 9 ∨ z = tt) hE h2 → hres h2 ≤ hres hE + 32 * (cl.length + 1) → J M h2 12 [some (.ref q)] []) →
      J M h1 pc9 [some (.ref q)] [] := by
    intro pc9 i cl h1 hpc hi hcl c1 T1 f1 r1 hx k
    obtain ⟨ns, it, mc, L, hn, hq, -⟩ := T1
    have fin : ∀ (r : Option Nat) (h2 : JIH), clPost K h1 q tx ll t (rCl t i) r h2 → ∀ pc8, ((pc9 = 0 → pc8 = 8) ∧ (pc9 = 43 → pc8 = 51)) → J M h2 pc8 [some (.ref q)] [va_rf r, .ref ll] := by
      intro r h2 z pc8 hp8
      obtain ⟨c9, j, a, b, e1, rfl, ok, ca, gk, c2, hj, f2, r2⟩ := z
      have L2 := L.fr f2 (show ¬ tt = 9 by omega)
      have hA : Ct K l yJ7_add wJ7_add 3 [.ref ll, .ref a] h2 (jRi (fun _ h' => LL tt h' ll (ns ++ [hnew h2]) (va_up it (hnew h2) a) (mc + nI 1) ∧ Fr (fun y => y = tt) h2 h' ∧ hres h' = hres h2 + 11)) jNo := ll_add F L2 (by omega)
      have hB : ∀ h3, LL tt h3 ll (ns ++ [hnew h2]) (va_up it (hnew h2) a) (mc + nI 1) ∧ Fr (fun y => y = tt) h2 h3 ∧ hres h3 = hres h2 + 11 → J M h3 12 [some (.ref q)] [] := by
        intro h3 ⟨L3, f3, r3⟩
        refine k c9 j h3 e1 hj (c2.fr f3 (by omega)) (TR.add (fun j n q e1 e2 => ?_) hn hcl ok ca gk L2.lt f3 (by omega) (by omega) L3) ((f1.tr (f2.mono (fun z hz => Or.inl hz))).tr (f3.mono (fun z hz => Or.inr hz))) (by omega)
        obtain ⟨z1, b, z2, z3⟩ := hq j n q e1 e2
        exact ⟨z1, b, z2.fr f2 (by decide), z3.fr f2 (by decide)⟩
      rcases hpc with rfl | rfl
      · have := hp8.1 rfl
        subst this
        refine J.callVi X dX9_whole_8 lk_X9_67_J7 ce_J7_add (hA) (by decide) rfl (L2.ob.1) rfl (fun r3 h3 z _ => ?_)
        refine J.pop X dX9_whole_11 ?_
        exact hB h3 z
      · have := hp8.2 rfl
        subst this
        refine J.callVi X dX9_whole_51 lk_X9_67_J7 ce_J7_add (hA) (by decide) rfl (L2.ob.1) rfl (fun r3 h3 z _ => ?_)
        refine J.pop X dX9_whole_54 ?_
        refine J.goto (tgt := 12) X dX9_whole_55 (by decide) ?_
        exact hB h3 z
    have hX : ∀ (x : Nat) (E : String) (h2 : JIH) (pc7 : Nat), rdX (fun z => z = 9) h1 (fun pl => rCl t i = .inl pl) 36 x E h2 → JT M h2 pc7 [some (.ref q)] x E := by
      intro x E h2 pc7 z
      exact JT.out X (fun z hz => by cases hz) (z.up f1 (fun _ z => Or.inl z) hx (by omega))
    have g1 := g.fr f1 (show ¬ (60 = 9 ∨ 60 = tt) by omega)
    rcases hpc with rfl | rfl
    · skip
      refine J.aload0 X dX9_whole_0 ?_
      refine J.getf X dX9_whole_1 fl_X9_12_X9 (c1.1) rfl ?_
      refine J.aload0 X dX9_whole_4 ?_
      refine J.callVaX X dX9_whole_5 lk_X9_63_X9 ce_X9_clause (rd_clause F hl c1 g1 hi (by omega)) (by decide) rfl (c1.1) rfl (fun r h2 z _ => ?_) (fun x E h2 z _ => ?_)
      rotate_left
      · exact hX x E h2 _ z
      exact fin r h2 z _ ⟨fun _ => rfl, fun e => by cases e⟩
    · skip
      refine J.aload0 X dX9_whole_43 ?_
      refine J.getf X dX9_whole_44 fl_X9_12_X9 (c1.1) rfl ?_
      refine J.aload0 X dX9_whole_47 ?_
      refine J.callVaX X dX9_whole_48 lk_X9_63_X9 ce_X9_clause (rd_clause F hl c1 g1 hi (by omega)) (by decide) rfl (c1.1) rfl (fun r h2 z _ => ?_) (fun x E h2 z _ => ?_)
      rotate_left
      · exact hX x E h2 _ z
      exact fin r h2 z _ ⟨(fun e => by cases e), fun _ => rfl⟩
  have loop : ∀ (f i : Nat) (cl : List Cl) (h1 : JIH), 21 ≤ f + cl.length → cl.length ≤ 20 → i ≤ t.length → hc h1 9 q (rdO tx t.length i ll) → TR tt h1 ll cl → Fr (fun z => z = 9 ∨ z = tt) hE h1 → hres h1 ≤ hres hE + 32 * cl.length → rAll t = rLp t f i cl → J M h1 12 [some (.ref q)] [] := by
    intro f
    induction f with
    | zero => intro i cl h1 h21 h20; omega
    | succ f ih =>
      intro i cl h1 h21 h20 hi c1 T1 f1 r1 e1
      have g1 := g.fr f1 (show ¬ (60 = 9 ∨ 60 = tt) by omega)
      obtain ⟨ns, it, mc, L, hn, hq, h20'⟩ := id T1
      have stop : ¬ (cl.length < 20 ∧ t[i]? = some 59) → J M h1 58 [some (.ref q)] [] := by
        intro hno
        unfold rLp at e1
        rw [if_neg hno] at e1
        refine J.aload0 X dX9_whole_58 ?_
        refine J.getf X dX9_whole_59 fl_X9_26_X9 (c1.1) rfl ?_
        refine J.aload0 X dX9_whole_62 ?_
        refine J.getf X dX9_whole_63 fl_X9_22_X9 (c1.1) rfl ?_
        refine J.icmp_geN (tgt := 81) X dX9_whole_66 (by decide) (by omega) (by omega) (fun c2 => ?_) (fun c2 => ?_)
        · skip
          rw [if_neg (by omega)] at e1
          refine J.aload0 X dX9_whole_81 ?_
          refine J.getf X dX9_whole_82 fl_X9_12_X9 (c1.1) rfl ?_
          refine J.areturnO X dX9_whole_85 (jRa.ofR ?_)
          exact ⟨cl, i, e1, rfl, T1, f1, by omega⟩
        · skip
          rw [if_pos (by omega)] at e1
          refine J.off (n := nI i) 9 X hl dX9_whole_69 dX9_whole_72 cl_X9_37 (JArg.fld X dX9_whole_73 dX9_whole_74 fl_X9_26_X9 (hget_push _ _ c1.1) rfl) dX9_whole_77 lk_X9_39 (by decide) (by omega) (fun fs k1 k2 => ?_)
          refine J.athrow X dX9_whole_80 jcl_11 (hget_push_new _ _ _) ?_
          exact JT.out X (fun z hz => by cases hz) ⟨rfl, i, fs, e1, hc.new _ _ _, k2, f1.tr (Fr.push _ _ _ _), by rw [hres_push]; show _ + (8 + fs.length) ≤ _; omega⟩
      refine J.aload0 X dX9_whole_12 ?_
      refine J.getf X dX9_whole_13 fl_X9_12_X9 (c1.1) rfl ?_
      refine J.callVi X dX9_whole_16 lk_X9_71_J7 ce_J7_size (ll_size F L) (by decide) rfl (L.ob.1) rfl (fun r h2 e _ => ?_)
      obtain ⟨rfl, rfl⟩ := e
      rw [hn]
      refine J.bipush (v := nI 20) X dX9_whole_19 (by decide) ?_
      refine J.icmp_geN (tgt := 58) X dX9_whole_21 (by decide) (by omega) (by omega) (fun c2 => ?_) (fun c2 => ?_)
      · skip
        exact stop (by omega)
      · skip
        refine J.aload0 X dX9_whole_24 ?_
        refine J.callVi X dX9_whole_25 lk_X9_29_X9 ce_X9_here (rd_here F c1 g1 (by omega)) (by decide) rfl (c1.1) rfl (fun r h2 e _ => ?_)
        obtain ⟨rfl, rfl⟩ := e
        refine J.bipush (v := nI 59) X dX9_whole_28 (by decide) ?_
        refine J.icmp_ne (tgt := 58) X dX9_whole_30 (by decide) (fun c3 => ?_) (fun c3 => ?_)
        · skip
          exact stop (fun z => c3 ((bI_some (by decide) (h128 i)).mpr z.2))
        · skip
          have c3' := (bI_some (v := 59) (by decide) (h128 i)).mp c3
          have hlt := (List.getElem?_eq_some_iff.mp c3').1
          unfold rLp at e1
          rw [if_pos ⟨by omega, c3'⟩] at e1
          refine J.aload0 X dX9_whole_33 ?_
          refine J.dup X dX9_whole_34 ?_
          refine J.getf X dX9_whole_35 fl_X9_26_X9 (c1.1) rfl ?_
          refine J.iconst (v := nI 1) X dX9_whole_38 (by decide) ?_
          refine J.iaddN X dX9_whole_39 ?_
          refine J.putf X dX9_whole_40 (pl_X9_26_X9 _) c1.1 (Nat.le_of_ble_eq_true rfl) rfl rfl ?_
          have d1 := c1.same (rdO tx t.length (i + 1) ll)
          have k1 : Fr (fun z => z = 9) h1 (hset h1 q (rdO tx t.length (i + 1) ll)) := Fr.set c1 rfl
          have k2 : hres (hset h1 q (rdO tx t.length (i + 1) ll)) = hres h1 := by refine hres_setS c1 ?_; rfl
          show J M (hset h1 q (rdO tx t.length (i + 1) ll)) _ _ _
          generalize hset h1 q (rdO tx t.length (i + 1) ll) = h2 at d1 k1 k2
          refine one 43 (i + 1) cl h2 (Or.inr rfl) (by omega) (by omega) d1 (T1.fr k1 (by omega) (by decide) (by decide)) (f1.tr (k1.mono (fun z hz => Or.inl hz))) (by omega) (fun pl e => by rw [e1, e]; rfl) (fun c9 j h3 e hj d3 T3 f3 r3 => ?_)
          refine ih j (cl ++ [c9]) h3 (by simp; omega) (by simp; omega) hj d3 T3 f3 (by simp; omega) ?_
          rw [e1, e]
          rfl
  refine one 0 0 [] hE (Or.inl rfl) (Nat.zero_le _) (by decide) c T (Fr.rf _ _) (by omega) (fun pl e => by unfold rAll; rw [e]; rfl) (fun c9 j h2 e hj c2 T2 f2 r2 => ?_)
  exact loop 20 j [c9] h2 (by show 21 ≤ 20 + 1; decide) (by show 1 ≤ 20; decide) hj c2 T2 f2 r2 (by unfold rAll; rw [e]; rfl)
