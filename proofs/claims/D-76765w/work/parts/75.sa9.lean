/-! Sketch: of -/
theorem SQ.attq {s s' : AS} {wh : Nat → Nat} {nx ah fi la : Nat → Option Nat} {to : Nat → Int32} (S : SQ s wh nx ah fi la to) (h1 : ∀ i, aq i → s'.1 i = s.1 i) (h2 : ∀ i, aq i → wsum s' i = wsum s i) : SQ s' wh nx ah fi la to := by
  refine ⟨fun i hi => ?_, fun k hk => ⟨(S.2 k hk).1, fun i hi => ?_⟩⟩
  · have := S.1 i hi
    rw [h1 i hi]
    refine ⟨this.1, this.2.1, this.2.2.1, ?_⟩
    show to i = nI (wsum s' i)
    rw [h2 i hi]
    exact this.2.2.2
  · rw [h1 i hi]; exact (S.2 k hk).2 i hi
theorem wsum_cq {s s2 : AS} {i : Nat} (h1 : s2.1 i = s.1 i) (h2 : ∀ k ∈ s.1 i, s2.2.2 0 k = s.2.2 0 k) : wsum s2 i = wsum s i := by
  unfold wsum
  rw [h1]
  exact sum_congr h2
theorem SA.conv {K : JK} {t : Nat} {h : JIH} {B : Nat} {s s2 : AS} {C : Nat → Nat} {e : Nat} {D : Nat → Prop} (S : SA K t h B s C e D) (h1 : ∀ i, aq i → s2.1 i = s.1 i) (h2 : ∀ k, D k → s2.2.2 0 k = s.2.2 0 k ∧ s2.2.2 2 k = s.2.2 2 k ∧ s2.2.2 3 k = s.2.2 3 k ∧ s2.2.2 4 k = s.2.2 4 k) (A2 : AW s2) : SA K t h B s2 C e D := by
  obtain ⟨wh, nx, ah, wt, ht, ch, pn, fi, la, to, T, g1, g2, g3, g4, g5, A⟩ := S
  refine ⟨wh, nx, ah, wt, ht, ch, pn, fi, la, to, T, g1, g2.attq h1 (fun i hi => wsum_cq (h1 i hi) (fun m hm => (h2 m (g4 i m hi hm)).1)), fun k hk => ?_, fun i k hi hk => g4 i k hi (h1 i hi ▸ hk), g5, A2⟩
  obtain ⟨a, b, c, d⟩ := h2 k hk
  rw [a, b, c, d]
  exact g3 k hk
def sQ (s : AS) (q : Nat) (p : List Nat) : AS := (fun i => if i < q then s.1 i else if i = q then p else [], s.2)
theorem sQ_mem {s : AS} {q : Nat} {p r : List Nat} (e : s.1 q = p ++ r) {i k : Nat} (h : k ∈ (sQ s q p).1 i) : k ∈ s.1 i ∧ (i < q ∨ i = q ∧ k ∈ p) := by
  replace h : k ∈ (if i < q then s.1 i else if i = q then p else []) := h
  by_cases c : i < q
  · rw [if_pos c] at h; exact ⟨h, Or.inl c⟩
  · rw [if_neg c] at h
    by_cases c2 : i = q
    · rw [if_pos c2] at h
      subst c2
      exact ⟨by rw [e]; exact List.mem_append_left _ h, Or.inr ⟨rfl, h⟩⟩
    · rw [if_neg c2] at h; cases h
theorem sQ_w {s : AS} (A : AW s) {q : Nat} {p r : List Nat} (hq : aq q) (e : s.1 q = p ++ r) : AW (sQ s q p) := by
  refine ⟨fun i j k hi hj h1 h2 => A.1 i j k hi hj (sQ_mem e h1).1 (sQ_mem e h2).1, fun i hi => ?_, fun i k hi hk => A.2.2 i k hi (sQ_mem e hk).1⟩
  show (if i < q then s.1 i else if i = q then p else []).Nodup
  split
  · exact A.2.1 i hi
  · split
    · have := A.2.1 q hq
      rw [e] at this
      exact (List.nodup_append.mp this).1
    · exact List.nodup_nil
theorem sQ_in (s : AS) (q k : Nat) (p : List Nat) (v : Int32) (x co cn : Nat) : (ain (anew (sQ s q p) k v x co cn) q k).1 = (sQ s q (p ++ [k])).1 := by
  funext i
  show (upQ (anew (sQ s q p) k v x co cn) q ((if q < q then s.1 q else if q = q then p else []) ++ [k])).1 i = if i < q then s.1 i else if i = q then p ++ [k] else []
  rw [upQ_1, if_neg (Nat.lt_irrefl q), if_pos rfl]
  by_cases c : i = q
  · rw [if_pos c, if_neg (by omega), if_pos c]
  · rw [if_neg c, if_neg c]
    show (if i < q then s.1 i else if i = q then p else []) = _
    rw [if_neg c]
def askC (C : Nat → Nat) (j : Nat) : Nat := if j < 4 then C j else 0
theorem sQ_next (s : AS) (q : Nat) : sQ s (q + 1) [] = sQ s q (s.1 q) := by
  refine congrArg (fun z => (z, s.2)) (funext fun i => ?_)
  by_cases c : i < q
  · rw [if_pos c, if_pos (by omega)]
  · rw [if_neg c]
    by_cases c2 : i = q
    · rw [if_pos c2, if_pos (by omega), c2]
    · rw [if_neg c2, if_neg (by omega)]
      split <;> rfl
theorem sa_of {K : JK} {l : Launch} {hE : JIH} {t B b c : Nat} {y : CY} {s : AS} {C : Nat → Nat} {G : List Nat} {ta : Nat → Nat} {D : List Nat} {tz : Nat} (F : JF K) (Z : SZ K t hE B) (ht0 : t = 3 ∨ t = 4) (S : CC K b hE c y s C G ta D tz) (rm : RM hE tz 92) :
    Ct K l yX3_of wX3_of 7 [.ref B, .ref c] hE (jRa (fun r h' => r = some B ∧ (∃ e' D', SA K t h' B s (askC C) e' D') ∧ CC K b h' c y s C G ta D tz ∧ Fr (fun x => x = t ∨ CT b x) hE h' ∧ hres h' ≤ hres hE + 92)) jNo := by
  have hb := S.bb
  have A := S.aw
  have r8 := S.rm8 rm
  refine st_X3_of (ls := [some (.ref B), some (.ref c), none, none, none, none]) F rfl (body := fun M X => ?_)
  have Z0 := Z
  obtain ⟨C', e', wh, nx, ah, wt, ht, ch, pn, fi, la, to, T, -⟩ := Z0
  refine J.aload0 X dX3_of_0 ?_
  refine J.callVv X dX3_of_1 lk_X3_43_X3 ce_X3_empties (sa_empties F Z s) (by decide) rfl (T.1) rfl (fun h1 e _ => ?_)
  obtain ⟨⟨C1, e1, S1⟩, f1⟩ := e
  clear T Z
  have S1' : SA K t h1 B (sQ s 1 []) C1 e1 (fun _ => False) := S1.conv (fun i hi => by
    have := hi.1
    show (if i < 1 then s.1 i else if i = 1 then [] else []) = []
    rw [if_neg (by omega)]
    split <;> rfl) (fun k hk => hk.elim) (sQ_w A (r := s.1 1) aq1 rfl)
  have S2 := S.fr f1.1 (by omega) (by omega)
  have F1 : Fr (fun x => x = t ∨ CT b x) hE h1 := f1.1.mono (fun x hx => Or.inl hx)
  refine J.iconst (v := nI 1) X dX3_of_4 (by decide) ?_
  refine J.istore2 X dX3_of_5 ?_
  suffices l1 : ∀ (r q : Nat) (h : JIH) (D1 : Nat → Prop) (x3 x4 x5 : Option Value), q + r = 5 → 1 ≤ q → SA K t h B (sQ s q []) C1 e1 D1 → CC K b h c y s C G ta D tz → Fr (fun x => x = t ∨ CT b x) hE h → hres h + 23 ≤ hres hE + 23 * q → J M h 6 [some (.ref B), some (.ref c), some (.int (nI q)), x3, x4, x5] [] from l1 4 1 h1 _ _ _ _ rfl (Nat.le_refl _) S1' S2 F1 (by have := f1.2; omega)
  clear S1 S1' S2 F1 f1 S
  intro r
  induction r with
  | zero =>
    intro q h D1 x3 x4 x5 hq q1 S1 S2 FF ee
    have hq5 : q = 5 := by omega
    subst hq5
    have S1 : SA K t h B s C1 e1 D1 := S1.conv (fun i hi => by
      have := hi.2
      show s.1 i = if i < 5 then s.1 i else _
      rw [if_pos (by omega)]) (fun k hk => ⟨rfl, rfl, rfl, rfl⟩) A
    obtain ⟨wh, nx, ah, wt, ht, ch, pn, fi, la, to, T, g1, g2, g3, g4, g5, -⟩ := S1
    have S := T.S
    refine J.iload2 X dX3_of_6 ?_
    refine J.iconst (v := nI 4) X dX3_of_7 (by decide) ?_
    refine J.icmp_gtN (tgt := 145) X dX3_of_8 (by decide) (by omega) (by omega) (fun _ => ?_) (fun q9 => absurd q9 (by omega))
    have ne : ∀ x, hc h t (B + 0) x → B ≠ c := fun x z => z.apT S2.o (by omega)
    have bc := ne _ ⟨S.o, g1.2.2 0 (by decide)⟩
    have co : ∀ {h' : JIH}, SkF h h' B → hget h' c = some (jO 1 (caO C y (bS s))) := fun f => (S2.o.fr (f.SF g1).1.1 (by omega)).1
    refine J.aload0 X dX3_of_145 ?_
    refine J.aload1 X dX3_of_146 ?_
    refine J.getf X dX3_of_147 fl_X3_112_X1 (co S.2) rfl ?_
    refine J.sk_s0 X dX3_of_150 (pl_X3_115_X3 _) S (rfl) (rfl) (fun h S => ?_)
    refine J.aload0 X dX3_of_153 ?_
    refine J.aload1 X dX3_of_154 ?_
    refine J.getf X dX3_of_155 fl_X3_116_X1 (co S.2) rfl ?_
    refine J.sk_s1 X dX3_of_158 (pl_X3_119_X3 _) S (rfl) (rfl) (fun h S => ?_)
    refine J.aload0 X dX3_of_161 ?_
    refine J.aload1 X dX3_of_162 ?_
    refine J.getf X dX3_of_163 fl_X3_120_X1 (co S.2) rfl ?_
    refine J.sk_s2 X dX3_of_166 (pl_X3_123_X3 _) S (rfl) (rfl) (fun h S => ?_)
    refine J.at (pc' := 169) rfl ?_
    refine J.aload0 X dX3_of_169 ?_
    refine J.aload1 X dX3_of_170 ?_
    refine J.getf X dX3_of_171 fl_X3_124_X1 (co S.2) rfl ?_
    refine J.sk_s3 X dX3_of_174 (pl_X3_127_X3 _) S (rfl) (rfl) (fun h S => ?_)
    refine J.aload0 X dX3_of_177 ?_
    refine J.iconst (v := nI 0) X dX3_of_178 (by decide) ?_
    refine J.sk_s4 X dX3_of_179 (pl_X3_128_X3 _) S (rfl) (rfl) (fun h S => ?_)
    refine J.aload0 X dX3_of_182 ?_
    refine J.iconst (v := nI 0) X dX3_of_183 (by decide) ?_
    refine J.sk_s5 X dX3_of_184 (pl_X3_131_X3 _) S (rfl) (rfl) (fun h S => ?_)
    refine J.aload0 X dX3_of_187 ?_
    refine J.iconst (v := nI 0) X dX3_of_188 (by decide) ?_
    refine J.at (pc' := 189) rfl ?_
    refine J.sk_s6 X dX3_of_189 (pl_X3_134_X3 _) S (rfl) (rfl) (fun h S => ?_)
    refine J.aload0 X dX3_of_192 ?_
    refine J.iconst (v := nI 0) X dX3_of_193 (by decide) ?_
    refine J.sk_s7 X dX3_of_194 (pl_X3_137_X3 _) S (rfl) (rfl) (fun h S => ?_)
    refine J.aload0 X dX3_of_197 ?_
    refine J.areturnO X dX3_of_198 (jRa.ofR ?_)
    have f9 := S.2.SF g1
    refine ⟨rfl, ⟨e1, D1, _, _, _, _, _, _, _, _, _, _, S.1, f9.2, g2, g3, g4, g5, A⟩, S2.fr f9.1.1 (by omega) (by omega), FF.tr (f9.1.1.mono (fun x hx => Or.inl hx)), ?_⟩
    have := f9.1.2
    omega
  | succ r ih =>
    intro q h D1 x3 x4 x5 hq q1 S1 S2 FF ee
    have hi : aq q := ⟨q1, by omega⟩
    have hq4 := hi.2
    obtain ⟨P, eP, S2, -, hG⟩ := S2
    have qo := (S2.q hi).1
    obtain ⟨fs, ob⟩ := S2.mp hi
    obtain ⟨wh, nx, ah, wt, ht, ch, pn, fi, la, to, S, w⟩ := S1.ex
    refine J.iload2 X dX3_of_6 ?_
    refine J.iconst (v := nI 4) X dX3_of_7 (by decide) ?_
    refine J.icmp_gtN (tgt := 145) X dX3_of_8 (by decide) (by omega) (by omega) (fun q9 => absurd q9 (by omega)) (fun _ => ?_)
    refine J.aload1 X dX3_of_11 ?_
    refine J.iload2 X dX3_of_12 ?_
    refine J.callVa X dX3_of_13 lk_X3_46_X1 ce_X1_queue (k_queue F ⟨P, eP, S2, A, hG⟩ hi) (by decide) rfl (S2.o.1) rfl (fun r' h' e _ => ?_)
    obtain ⟨rfl, rfl⟩ := e
    have hb1 : b + q ≠ 1 := by omega
    obtain ⟨ea, ka, n, mc, S2, etz⟩ := S2
    refine J.getf X dX3_of_16 fl_X3_52_X2 (qo) rfl ?_
    refine J.callVa X dX3_of_19 lk_X3_58_J2 ce_J2_entrySet (c_setEntry F (S2.2.2.1 q hi) hb1 (by omega)) (by decide) rfl (ob.1) rfl (fun r' h1 e _ => ?_)
    obtain ⟨v, rfl, cv, L, f1, e1'⟩ := e
    have S3 := S2.map hi f1 L (S2.2.2.2.2.2.1 q · hi) (fun _ _ => rfl)
    rw [upQ_id, va_upid, va_upid, va_upid, va_upid] at S3
    refine J.callFa X dX3_of_22 lk_X3_64_J10 ce_J10_iterator (c_iterEntry F (S3.2.2.1 q hi) cv.1 (by omega)) (by decide) rfl (cv.1) rfl (fun r' h2 e _ => ?_)
    obtain ⟨rfl, e2⟩ := e
    have f2 := Fr.push (fun x => x = 6) h1 6 (jO 22 (itO (Option.map (ea q) (s.1 q).head?) none (mc q) (y.2.1 q)))
    have ci := hc.new h1 6 (jO 22 (itO (Option.map (ea q) (s.1 q).head?) none (mc q) (y.2.1 q)))
    have e3 := hres_push h1 6 (jO 22 (itO (Option.map (ea q) (s.1 q).head?) none (mc q) (y.2.1 q)))
    rw [← e2] at f2 ci e3
    have S4 := S3.fr f2 (b6 hb) (by decide)
    have FF2 : Fr (fun x => x = t ∨ CT b x) hE h2 := (FF.tr (f1.mono (fun x hx => Or.inr (by rw [hx]; exact CT.q hi)))).tr (f2.mono (fun x hx => Or.inr (Or.inr hx)))
    have ee2 : hres h2 ≤ hres hE + 23 * q := by
      have : esz (jO 22 (itO (Option.map (ea q) (s.1 q).head?) none (mc q) (y.2.1 q))) = 5 := rfl
      rw [e3, this]
      omega
    have S5 : SA K t h2 B (sQ s q []) C1 e1 D1 := (S1.fr f1 (by omega)).fr f2 (by omega)
    clear e2 e3 S3 S2 L S1 f2 S w
    generalize hnew h1 = it at ci
    refine J.astore3 X dX3_of_27 ?_
    suffices l2 : ∀ (r p : List Nat) (h : JIH) (D1 : Nat → Prop) (cur : Option Nat) (x4 x5 : Option Value), s.1 q = p ++ r → SA K t h B (sQ s q p) C1 e1 D1 → CI K b h c y s C P (wS s) (bS s) ta D ea ka n mc → hc h 6 it (jO 22 (itO (Option.map (ea q) r.head?) cur (mc q) (y.2.1 q))) → Fr (fun x => x = t ∨ CT b x) hE h → hres h ≤ hres hE + 23 * q → J M h 28 [some (.ref B), some (.ref c), some (.int (nI q)), some (.ref it), x4, x5] [] from l2 (s.1 q) [] h2 D1 none _ _ rfl S5 S4 ci FF2 ee2
    clear S5 S4 ci FF2 ee2 f1 e1' cv FF ee
    intro r2
    induction r2 with
    | nil =>
      intro p h D1 cur x4 x5 hl S1 S2 ci FF ee
      rw [List.append_nil] at hl
      obtain ⟨wh, nx, ah, wt, ht, ch, pn, fi, la, to, S, w⟩ := S1.ex
      refine J.aload3 X dX3_of_28 ?_
      refine J.callFi X dX3_of_29 lk_X3_70_J12 ce_J11_hasNext (it_hasEntry F ci.1) (by decide) rfl (ci.1) rfl (fun r' h' e _ => ?_)
      obtain ⟨rfl, rfl⟩ := e
      refine J.if_eqB (tgt := 139) X dX3_of_34 (by decide) (fun _ => ?_) (fun q9 => absurd q9 (fun h => by cases h))
      refine J.iinc2N (d := 1) X dX3_of_139 (by decide) ?_
      refine J.goto (tgt := 6) X dX3_of_142 (by decide) ?_
      rw [← hl, ← sQ_next] at S1
      exact ih (q + 1) h D1 _ _ _ (by omega) (by omega) S1 ⟨P, eP, ⟨ea, ka, n, mc, S2, etz⟩, A, hG⟩ FF (by omega)
    | cons k r2 ih2 =>
      intro p h D1 cur x4 x5 hl S1 S2 ci FF ee
      have hk : k ∈ s.1 q := by rw [hl]; exact List.mem_append_right _ List.mem_cons_self
      have ok := A.aok hi hk
      have k4 := ok.1
      have hpn := ok.2.2.2.2.2.1
      have hkp : ∀ j, aq j → k ∉ (sQ s q p).1 j := fun j hj z => by
        obtain ⟨z1, z2⟩ := sQ_mem hl z
        have := A.1 j q k hj hi z1 hk
        rcases z2 with z2 | ⟨-, z2⟩
        · omega
        · have hn := A.2.1 q hi
          rw [hl] at hn
          exact (List.nodup_append.mp hn).2.2 k z2 k List.mem_cons_self rfl
      obtain ⟨wh, nx, ah, wt, ht, ch, pn, fi, la, to, S, w⟩ := S1.ex
      refine J.aload3 X dX3_of_28 ?_
      refine J.callFi X dX3_of_29 lk_X3_70_J12 ce_J11_hasNext (it_hasEntry F ci.1) (by decide) rfl (ci.1) rfl (fun r' h' e _ => ?_)
      obtain ⟨rfl, rfl⟩ := e
      refine J.if_eqB (tgt := 139) X dX3_of_34 (by decide) (fun q9 => absurd q9 (fun h => h rfl)) (fun _ => ?_)
      refine J.aload3 X dX3_of_37 ?_
      refine J.callFa X dX3_of_38 lk_X3_76_J12 ce_J12_next (c_nextEntry F (S2.2.2.1 q hi) hl ci.1) (by decide) rfl (ci.1) rfl (fun r' h' e _ => ?_)
      obtain ⟨rfl, e2⟩ := e
      have f2 : Fr (fun x => x = 6) h (hset h it (jO 22 (itO (Option.map (ea q) r2.head?) (some (ea q k)) (mc q) (y.2.1 q)))) := Fr.set ci rfl
      have e3 : hres (hset h it (jO 22 (itO (Option.map (ea q) r2.head?) (some (ea q k)) (mc q) (y.2.1 q)))) = hres h := by refine hres_setS ci ?_; rfl
      replace ci := ci.same (jO 22 (itO (Option.map (ea q) r2.head?) (some (ea q k)) (mc q) (y.2.1 q)))
      rw [← e2] at f2 e3 ci
      clear e2 S w
      replace S1 := S1.fr f2 (by omega)
      replace S2 := S2.fr f2 (b6 hb) (by decide)
      replace FF := FF.tr (f2.mono (fun x hx => Or.inr (Or.inr hx)))
      have L := S2.2.2.1 q hi
      obtain ⟨z3, z4, z5, ce⟩ := L.ent hk
      have ck := L.key hk
      have ct := S2.2.2.2.1 k (S2.2.2.2.2.2.1 q k hi hk)
      obtain ⟨wh, nx, ah, wt, ht, ch, pn, fi, la, to, S, w⟩ := S1.ex
      refine J.castO X dX3_of_43 cl_X3_79 jcl_13 q1200 (ce.1) ?_
      refine J.astore4 X dX3_of_46 ?_
      refine J.aload4 X dX3_of_48 ?_
      refine J.callFa X dX3_of_50 lk_X3_81_J34 ce_J33_getKey (en_key F ce.1) (by decide) rfl (ce.1) rfl (fun r' h4 e _ => ?_)
      obtain ⟨rfl, rfl⟩ := e
      refine J.castS X dX3_of_55 cl_X3_84 jcl_8 (ck.2.1) ?_
      refine J.callVi X dX3_of_58 lk_X3_86_X8 ce_X8_told (key_told F ck) (by decide) rfl (ck.2.1) rfl (fun r' h4 e _ => ?_)
      obtain ⟨rfl, rfl⟩ := e
      refine J.istore5 X dX3_of_61 ?_
      refine J.aload0 X dX3_of_63 ?_
      refine J.iload5 X dX3_of_64 ?_
      refine J.aload4 X dX3_of_66 ?_
      refine J.callFa X dX3_of_68 lk_X3_90_J34 ce_J33_getValue (en_val F ce.1) (by decide) rfl (ce.1) rfl (fun r' h4 e _ => ?_)
      obtain ⟨rfl, rfl⟩ := e
      refine J.castS X dX3_of_73 cl_X3_93 jcl_7 (ct.1) ?_
      refine J.getf X dX3_of_76 fl_X3_95_X7 (ct.1) rfl ?_
      refine J.aload4 X dX3_of_79 ?_
      refine J.callFa X dX3_of_81 lk_X3_90_J34 ce_J33_getValue (en_val F ce.1) (by decide) rfl (ce.1) rfl (fun r' h4 e _ => ?_)
      obtain ⟨rfl, rfl⟩ := e
      refine J.castS X dX3_of_86 cl_X3_93 jcl_7 (ct.1) ?_
      refine J.getf X dX3_of_89 fl_X3_99_X7 (ct.1) rfl ?_
      refine J.iload2 X dX3_of_92 ?_
      refine J.callVv X dX3_of_93 lk_X3_101_X3 ce_X3_comes (sa_comes (v := 0) (co := 0) F S1 hi k4 hkp ok.2.1 ok.2.2.2.2.1 (Nat.zero_le 99)) (by decide) rfl (S.o) rfl (fun h4 e _ => ?_)
      obtain ⟨S6, f6⟩ := e
      clear S w
      obtain ⟨wh, nx, ah, wt, ht, ch, pn, fi, la, to, T, g1, g2, g3, g4, g5, A6⟩ := S6
      have S := T.S
      have ce2 := ce.fr f6.1 (by omega)
      have ct2 := ct.fr f6.1 (by omega)
      refine J.aload0 X dX3_of_96 ?_
      refine J.getf X dX3_of_97 fl_X3_24_X3 (S.o) rfl ?_
      refine J.iload5 X dX3_of_100 ?_
      refine J.aload4 X dX3_of_102 ?_
      refine J.callFa X dX3_of_104 lk_X3_90_J34 ce_J33_getValue (en_val F ce2.1) (by decide) rfl (ce2.1) rfl (fun r' h5 e _ => ?_)
      obtain ⟨rfl, rfl⟩ := e
      refine J.castS X dX3_of_109 cl_X3_93 jcl_7 (ct2.1) ?_
      refine J.getf X dX3_of_112 fl_X3_105_X7 (ct2.1) rfl ?_
      refine J.sk_ht X dX3_of_115 S (rfl) (by omega) (fun h S => ?_)
      have ce3 : ∀ {h' : JIH}, SkF h4 h' B → hc h' (b + q) (ea q k) (jO 13 [.int (nI (hsh k)), .ref (ka q k), .ref (ta k), z3, z4, z5]) := fun f => ce2.fr (f.SF g1).1.1 (by omega)
      have ct3 : ∀ {h' : JIH}, SkF h4 h' B → hc h' (b + 5) (ta k) (jO 7 (thO s k)) := fun f => ct2.fr (f.SF g1).1.1 (by omega)
      refine J.aload0 X dX3_of_116 ?_
      refine J.getf X dX3_of_117 fl_X3_30_X3 (S.o) rfl ?_
      refine J.iload5 X dX3_of_120 ?_
      refine J.aload4 X dX3_of_122 ?_
      refine J.callFa X dX3_of_124 lk_X3_90_J34 ce_J33_getValue (en_val F (ce3 S.2).1) (by decide) rfl ((ce3 S.2).1) rfl (fun r' h5 e _ => ?_)
      obtain ⟨rfl, rfl⟩ := e
      refine J.castS X dX3_of_129 cl_X3_93 jcl_7 ((ct3 S.2).1) ?_
      refine J.getf X dX3_of_132 fl_X3_108_X7 ((ct3 S.2).1) rfl ?_
      refine J.sk_pn X dX3_of_135 S (by omega) (rfl) (by omega) (fun h S => ?_)
      refine J.goto (tgt := 28) X dX3_of_136 (by decide) ?_
      have f9 := S.2.SF g1
      have eA : ∀ j, (anew (sQ s q p) k 0 (s.2.2 0 k) 0 (s.2.2 3 k)).2.2 j k = if j = 0 then s.2.2 0 k else if j = 1 then 0 else if j = 3 then s.2.2 3 k else 0 := fun j => va_up_self _ _ _
      have S7 : SA K t h B (sQ s q (p ++ [k])) C1 e1 (fun j => j = k ∨ D1 j) := by
        refine ⟨_, _, _, _, _, _, _, _, _, _, S.1, f9.2, g2.attq (fun i hi => by rw [sQ_in]) (fun i hi => wsum_cq (by rw [sQ_in]) (fun m hm => ?_)), fun j hj => ?_, fun i j hi hj => g4 i j hi (by rw [sQ_in]; exact hj), ⟨g5.1, g5.2.1, g5.2.2.1, g5.2.2.2.1, fun m => ?_⟩, sQ_w A hi (r := r2) (by rw [hl, List.append_assoc]; rfl)⟩
        · show s.2.2 0 m = (anew (sQ s q p) k 0 (s.2.2 0 k) 0 (s.2.2 3 k)).2.2 0 m
          by_cases em : m = k
          · rw [em, eA]; rfl
          · exact (anew_ne _ _ _ _ _ _ _ em).symm
        · obtain ⟨a1, a2, a3, a4⟩ := g3 j hj
          show _ = nI (s.2.2 0 j) ∧ _ = nI (s.2.2 2 j) ∧ _ = nI (s.2.2 3 j) ∧ _ = s.2.2 4 j
          by_cases em : j = k
          · subst em
            refine ⟨a1.trans ?_, ?_, a3.trans ?_, ?_⟩
            · exact congrArg nI (eA 0)
            · rw [upd_at, if_pos rfl]
            · exact congrArg nI (eA 3)
            · rw [va_up_self]
          · have en : ∀ i, (anew (sQ s q p) k 0 (s.2.2 0 k) 0 (s.2.2 3 k)).2.2 i j = s.2.2 i j := fun i => anew_ne _ _ _ _ _ _ _ em
            refine ⟨a1.trans (congrArg nI (en 0)), ?_, a3.trans (congrArg nI (en 3)), ?_⟩
            · rw [upd_at, if_neg em]; exact a2.trans (congrArg nI (en 2))
            · rw [va_up_ne _ _ em]; exact a4.trans (en 4)
        · rw [va_up_at]
          split
          · omega
          · exact g5.2.2.2.2 m
      refine ih2 (p ++ [k]) h _ _ _ _ (by rw [hl, List.append_assoc]; rfl) S7 ((S2.fr f6.1 (by omega) (by omega)).fr f9.1.1 (by omega) (by omega)) ((ci.fr f6.1 (by omega)).fr f9.1.1 (by omega)) ((FF.tr (f6.1.mono (fun x hx => Or.inl hx))).tr (f9.1.1.mono (fun x hx => Or.inl hx))) ?_
      have := f9.1.2
      have := f6.2
      omega
