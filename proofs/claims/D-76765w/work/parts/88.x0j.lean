/-! SegmentedCache: mean, gone, things -/
def asum (s : AS) (l : List Nat) : Nat := (l.map (s.2.2 1)).sum
theorem asum_snoc (s : AS) (p : List Nat) (k : Nat) : asum s (p ++ [k]) = asum s p + s.2.2 1 k := by
  unfold asum
  rw [List.map_append, List.sum_append]
  show _ + (_ + 0) = _
  rw [Nat.add_zero]
theorem asum_le {s : AS} : ∀ {l : List Nat}, (∀ k ∈ l, s.2.2 1 k ≤ 99) → asum s l ≤ 99 * l.length
  | [], _ => Nat.le_refl _
  | k :: r, h => by
    have := asum_le (s := s) (l := r) (fun x hx => h x (List.mem_cons_of_mem _ hx))
    have := h k List.mem_cons_self
    show s.2.2 1 k + asum s r ≤ _
    rw [List.length_cons]
    omega
def gmean (g : GA) (w q : Int32) (r : Int64) : Prop := (¬ ((nI 1 ≤ w ∧ w ≤ nI 2) ∧ (nI 0 ≤ q ∧ q ≤ nI 1)) ∧ r = tNO) ∨ ((nI 1 ≤ w ∧ w ≤ nI 2) ∧ (nI 0 ≤ q ∧ q ≤ nI 1) ∧ ∃ i b, (1 ≤ i ∧ i ≤ 2) ∧ w = nI i ∧ q = nI b ∧ b < 2 ∧ ((g.x.1.1 i = [] ∧ r = tNO) ∨ (g.x.1.1 i ≠ [] ∧ r = lN ((if b = 0 then asum g.x.1 (g.x.1.1 i) else (g.x.1.1 i).length) / Nat.gcd (asum g.x.1 (g.x.1.1 i)) (g.x.1.1 i).length))))
theorem x_mean {K : JK} {l : Launch} {hE : JIH} {o : Nat} {p : GP} {g : GA} {tz tzi : Nat} (F : JF K) (S : GX K hE o p g tz tzi) {w q : Int32} {r : Int64} (hf : gmean g w q r) (rm : RM hE tz 23) :
    Ct K l yX0_mean wX0_mean 12 [.ref o, .int w, .int q] hE (jRl (fun r0 h' => r0 = r ∧ GX K h' o p g tz tzi ∧ hres h' ≤ hres hE + 23 ∧ Fr n5 hE h')) jNo := by
  have so := S.o.1
  obtain ⟨ta, D, S1⟩ := S.cc
  have co := S1.o.1
  have hB := S.bc
  have A := S1.aw
  have r8 := S1.rm8 rm
  refine st_X0_mean (ls := [some (.ref o), some (.int w), some (.int q), none, none, none, none]) F rfl (body := fun M X => ?_)
  have bad : ¬ ((nI 1 ≤ w ∧ w ≤ nI 2) ∧ (nI 0 ≤ q ∧ q ≤ nI 1)) → J M hE 18 [some (.ref o), some (.int w), some (.int q), none, none, none, none] [] := fun kb => by
    rcases hf with ⟨-, rfl⟩ | ⟨q1, q2, -⟩
    · skip
      refine J.ldc2 (v := (-9223372036854775808)) X dX0_mean_18 q2069 ?_
      refine J.lreturn X dX0_mean_21 (jRl.of ?_)
      exact ⟨rfl, S, by omega, Fr.rf _ _⟩
    · exact absurd ⟨q1, q2⟩ kb
  refine J.iload1 X dX0_mean_0 ?_
  refine J.iconst (v := nI 1) X dX0_mean_1 (by decide) ?_
  refine J.iconst (v := nI 2) X dX0_mean_2 (by decide) ?_
  refine J.callSi X dX0_mean_3 lk_X0_5 ce_X0_in (x_in F w 1 2) (by decide) rfl (fun r0 h2 e _ => ?_)
  obtain ⟨rfl, rfl⟩ := e
  refine J.if_eqB (tgt := 18) X dX0_mean_6 (by decide) (fun c1 => ?_) (fun c1 => ?_)
  · skip
    exact bad (fun z => c1 z.1)
  refine J.iload2 X dX0_mean_9 ?_
  refine J.iconst (v := nI 0) X dX0_mean_10 (by decide) ?_
  refine J.iconst (v := nI 1) X dX0_mean_11 (by decide) ?_
  refine J.callSi X dX0_mean_12 lk_X0_5 ce_X0_in (x_in F q 0 1) (by decide) rfl (fun r0 h2 e _ => ?_)
  obtain ⟨rfl, rfl⟩ := e
  by_cases c3 : nI 0 ≤ q ∧ q ≤ nI 1
  case neg =>
    refine J.if_neB (tgt := 22) X dX0_mean_15 (by decide) (fun q9 => absurd q9 (c3)) (fun _ => ?_)
    exact bad (fun z => c3 z.2)
  rcases hf with ⟨qq, -⟩ | ⟨-, -, i, b, hi12, rfl, rfl, hb, hf⟩
  · exact absurd ⟨c1, c3⟩ qq
  clear bad
  have hi : aq i := ⟨hi12.1, by omega⟩
  have qo := S1.q hi
  obtain ⟨fs, ob⟩ := S1.mp hi
  refine J.if_neB (tgt := 22) X dX0_mean_15 (by decide) (fun _ => ?_) (fun q9 => absurd q9 (fun z => z c3))
  refine J.lconst (v := 0) X dX0_mean_22 (by decide) ?_
  refine J.lstore3 X dX0_mean_23 ?_
  refine J.aload0 X dX0_mean_24 ?_
  refine J.getf X dX0_mean_25 fl_X0_18_X0 (so) rfl ?_
  refine J.iload1 X dX0_mean_28 ?_
  refine J.callVa X dX0_mean_29 lk_X0_102_X1 ce_X1_queue (k_queue F S1 hi) (by decide) rfl (co) rfl (fun r0 h2 e _ => ?_)
  obtain ⟨rfl, rfl⟩ := e
  obtain ⟨P, eP, ⟨ea, ka, n, mc, S1, etz⟩, -, hG⟩ := S1
  refine J.getf X dX0_mean_32 fl_X0_175_X2 (qo.1) rfl ?_
  refine J.callVa X dX0_mean_35 lk_X0_288_J2 ce_J2_values (c_setVal F (S1.2.2.1 i hi) (by omega) (by omega)) (by decide) rfl (ob.1) rfl (fun r0 h1 e _ => ?_)
  obtain ⟨v, rfl, cv, L, f1, e1⟩ := e
  have S2 := S1.map hi f1 L (S1.2.2.2.2.2.1 i · hi) (fun _ _ => rfl)
  rw [upQ_id, va_upid, va_upid, va_upid, va_upid] at S2
  refine J.callFa X dX0_mean_38 lk_X0_292_J42 ce_J42_iterator (c_iterVal F (S2.2.2.1 i hi) cv.1 (by omega)) (by decide) rfl (cv.1) rfl (fun r0 h2 e _ => ?_)
  obtain ⟨rfl, e2⟩ := e
  have f2 := Fr.push (fun x => x = 6) h1 6 (jO 24 (itO (Option.map (ea i) (g.x.1.1 i).head?) none (mc i) (p.y.2.1 i)))
  have ci := hc.new h1 6 (jO 24 (itO (Option.map (ea i) (g.x.1.1 i).head?) none (mc i) (p.y.2.1 i)))
  have e3 := hres_push h1 6 (jO 24 (itO (Option.map (ea i) (g.x.1.1 i).head?) none (mc i) (p.y.2.1 i)))
  rw [← e2] at f2 ci e3
  have S3 := S2.fr f2 (b6 (Or.inl rfl)) (by decide)
  have ff : Fr (CT 16) hE h2 := (f1.mono (fun x hx => by rw [hx]; exact CT.q hi)).tr (f2.mono (fun x hx => Or.inr hx))
  have ee : hres h2 ≤ hres hE + 23 := by
    have : esz (jO 24 (itO (Option.map (ea i) (g.x.1.1 i).head?) none (mc i) (p.y.2.1 i))) = 5 := rfl
    rw [e3, this]
    omega
  clear e2 e3 S2 L
  generalize hnew h1 = it at ci
  have hlen : (g.x.1.1 i).length ≤ 400 := nodup_lt (A.2.1 i hi) (fun k hk => (A.2.2 i k hi hk).1)
  refine J.astore5 X dX0_mean_43 ?_
  suffices loop : ∀ (r p1 : List Nat) (h : JIH) (cur : Option Nat) (x6 : Option Value), g.x.1.1 i = p1 ++ r → CI K 16 h p.c p.y g.x.1 g.x.2.1 P (wS g.x.1) (bS g.x.1) ta D ea ka n mc → hc h 6 it (jO 24 (itO (Option.map (ea i) r.head?) cur (mc i) (p.y.2.1 i))) → Fr (CT 16) hE h → hres h ≤ hres hE + 23 → J M h 45 [some (.ref o), some (.int (nI i)), some (.int (nI b)), some (.long (lN (asum g.x.1 p1))), none, some (.ref it), x6] [] from loop (g.x.1.1 i) [] h2 none _ rfl S3 ci ff ee
  clear S3 ci ff ee f1 f2 e1 cv S1
  intro r1
  induction r1 with
  | nil =>
    intro p1 h cur x6 hl S1 ci ff ee
    rw [List.append_nil] at hl
    have X1 := S.up0 (x' := g.x) ff (fun z hz => Or.inl hz) ⟨ta, D, P, eP, ⟨ea, ka, n, mc, S1, etz⟩, A, hG⟩ hB
    have so := X1.o.1
    have co := S1.1.1
    have qo := S1.2.1 i hi
    obtain ⟨fs, ob⟩ := (S1.2.2.1 i hi).ob
    refine J.aload5 X dX0_mean_45 ?_
    refine J.callFi X dX0_mean_47 lk_X0_205_J43 ce_J11_hasNext (it_hasVal F ci.1) (by decide) rfl (ci.1) rfl (fun r' h' e _ => ?_)
    obtain ⟨rfl, rfl⟩ := e
    refine J.if_eqB (tgt := 79) X dX0_mean_52 (by decide) (fun _ => ?_) (fun q9 => absurd q9 (fun h => by cases h))
    refine J.aload0 X dX0_mean_79 ?_
    refine J.getf X dX0_mean_80 fl_X0_18_X0 (so) rfl ?_
    refine J.iload1 X dX0_mean_83 ?_
    refine J.callVa X dX0_mean_84 lk_X0_102_X1 ce_X1_queue (k_queue F ⟨P, eP, ⟨ea, ka, n, mc, S1, etz⟩, A, hG⟩ hi) (by decide) rfl (co) rfl (fun r0 h2 e _ => ?_)
    obtain ⟨rfl, rfl⟩ := e
    refine J.getf X dX0_mean_87 fl_X0_175_X2 (qo.1) rfl ?_
    refine J.callUi X dX0_mean_90 lk_X0_295_J2 ce_J1_size (c_size F (S1.2.2.1 i hi)) (by decide) rfl (ob.1) rfl (fun r0 h2 e _ => ?_)
    obtain ⟨rfl, rfl⟩ := e
    refine J.istore5 X dX0_mean_93 ?_
    refine J.iload5 X dX0_mean_95 ?_
    have fin : GX K h o p g tz tzi ∧ hres h ≤ hres hE + 23 ∧ Fr n5 hE h := ⟨X1, ee, ff.mono (fun z hz => CT.n5 hz (Or.inl rfl))⟩
    rw [← hl]
    rcases hf with ⟨hn, rfl⟩ | ⟨hn, rfl⟩
    · have h0 : (g.x.1.1 i).length = 0 := by rw [hn]; rfl
      refine J.if_neN (tgt := 106) X dX0_mean_97 (by decide) (by omega) (fun q9 => absurd q9 (fun z => z h0)) (fun _ => ?_)
      refine J.ldc2 (v := (-9223372036854775808)) X dX0_mean_100 q2069 ?_
      refine J.goto (tgt := 114) X dX0_mean_103 (by decide) ?_
      refine J.lreturn X dX0_mean_114 (jRl.of ?_)
      exact ⟨rfl, fin⟩
    · have h0 : (g.x.1.1 i).length ≠ 0 := fun z => hn (List.eq_nil_of_length_eq_zero z)
      have hs := asum_le (s := g.x.1) (l := g.x.1.1 i) (fun k hk => (A.2.2 i k hi hk).2.2.1)
      refine J.if_neN (tgt := 106) X dX0_mean_97 (by decide) (by omega) (fun _ => ?_) (fun q9 => absurd q9 (h0))
      refine J.lload3 X dX0_mean_106 ?_
      refine J.iload5 X dX0_mean_107 ?_
      refine J.i2l X dX0_mean_109 ?_
      refine J.topl (nI_l (show (g.x.1.1 i).length < 2147483648 by omega)) ?_
      refine J.iload2 X dX0_mean_110 ?_
      refine J.callSl X dX0_mean_111 lk_X0_284 ce_X0_lowest (x_lowest F (a := asum g.x.1 (g.x.1.1 i)) (b := (g.x.1.1 i).length) (by omega) (by omega) (by omega) hb) (by decide) rfl (fun r0 h3 e _ => ?_)
      obtain ⟨rfl, rfl⟩ := e
      refine J.lreturn X dX0_mean_114 (jRl.of ?_)
      exact ⟨rfl, fin⟩
  | cons k r1 ih =>
    intro p1 h cur x6 hl S1 ci ff ee
    have hk : k ∈ g.x.1.1 i := by rw [hl]; exact List.mem_append_right _ List.mem_cons_self
    have hc1 := (A.2.2 i k hi hk).2.2.1
    refine J.aload5 X dX0_mean_45 ?_
    refine J.callFi X dX0_mean_47 lk_X0_205_J43 ce_J11_hasNext (it_hasVal F ci.1) (by decide) rfl (ci.1) rfl (fun r' h' e _ => ?_)
    obtain ⟨rfl, rfl⟩ := e
    refine J.if_eqB (tgt := 79) X dX0_mean_52 (by decide) (fun q9 => absurd q9 (fun h => h rfl)) (fun _ => ?_)
    refine J.aload5 X dX0_mean_55 ?_
    refine J.callFa X dX0_mean_57 lk_X0_211_J43 ce_J43_next (c_nextVal F (S1.2.2.1 i hi) hl ci.1) (by decide) rfl (ci.1) rfl (fun r' h' e _ => ?_)
    obtain ⟨rfl, e2⟩ := e
    have f2 : Fr (fun x => x = 6) h (hset h it (jO 24 (itO (Option.map (ea i) r1.head?) (some (ea i k)) (mc i) (p.y.2.1 i)))) := Fr.set ci rfl
    have e3 : hres (hset h it (jO 24 (itO (Option.map (ea i) r1.head?) (some (ea i k)) (mc i) (p.y.2.1 i)))) = hres h := by refine hres_setS ci ?_; rfl
    replace ci := ci.same (jO 24 (itO (Option.map (ea i) r1.head?) (some (ea i k)) (mc i) (p.y.2.1 i)))
    rw [← e2] at f2 e3 ci
    clear e2
    replace S1 := S1.fr f2 (b6 (Or.inl rfl)) (by decide)
    have ct := S1.2.2.2.1 k (S1.2.2.2.2.2.1 i k hi hk)
    refine J.castS X dX0_mean_62 cl_X0_147 jcl_7 (ct.1) ?_
    refine J.astore6 X dX0_mean_65 ?_
    refine J.lload3 X dX0_mean_67 ?_
    refine J.aload6 X dX0_mean_68 ?_
    refine J.getf X dX0_mean_70 fl_X0_163_X7 (ct.1) rfl ?_
    refine J.i2l X dX0_mean_73 ?_
    refine J.topl (nI_l (show g.x.1.2.2 1 k < 2147483648 by omega)) ?_
    refine J.ladd X dX0_mean_74 ?_
    refine J.topl (lN_add _ _) ?_
    rw [← asum_snoc]
    refine J.lstore3 X dX0_mean_75 ?_
    refine J.goto (tgt := 45) X dX0_mean_76 (by decide) ?_
    exact ih (p1 ++ [k]) h' _ _ (by rw [hl, List.append_assoc]; rfl) S1 ci (ff.tr (f2.mono (fun x hx => Or.inr hx))) (by omega)
