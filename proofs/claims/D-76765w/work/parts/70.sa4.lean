/-! Sketch: hits, gets -/
theorem adrop_mem {s : AS} (A : AW s) {i k : Nat} (hi : aq i) (hk : k ∈ s.1 i) : adrop s k = aout s i k := by
  unfold adrop
  rw [awhere_of A hi hk, if_neg (by have := hi.1; omega)]
theorem sa_hits {K : JK} {l : Launch} {hE : JIH} {t B : Nat} {s : AS} {C : Nat → Nat} {e : Nat} {D : Nat → Prop}  (F : JF K) (S : SA K t hE B s C e D) (hC2 : C 2 < 1000) {k : Nat} (hq : k ∈ s.1 1 ∨ k ∈ s.1 2) :
    Ct K l yX3_hits wX3_hits 1 [.ref B, .int (nI k)] hE (jRv (fun h' => SA K t h' B (ahit s (C 2) k) C e D ∧ SF t hE h')) jNo := by
  have A := S.aw
  have ha : ∃ i, aq i ∧ k ∈ s.1 i ∧ i ≤ 2 := hq.elim (fun z => ⟨1, aq1, z, by decide⟩) (fun z => ⟨2, aq2, z, by decide⟩)
  obtain ⟨i, hi, hki, hi2⟩ := ha
  have hkD := S.dq hi hki
  have ok := A.aok hi hki
  have k4 := ok.1
  have hht := ok.2.2.2.1
  obtain ⟨wh, nx, ah, wt, ht, ch, pn, fi, la, to, T, g1, g2, g3, g4, g5, -⟩ := S
  refine st_X3_hits (ls := [some (.ref B), some (.int (nI k)), none]) F rfl (body := fun M X => ?_)
  have S := T.S
  refine J.aload0 X dX3_hits_0 ?_
  refine J.getf X dX3_hits_1 fl_X3_24_X3 (S.o) rfl ?_
  refine J.iload1 X dX3_hits_4 ?_
  refine J.bipush (v := nI 99) X dX3_hits_5 (by decide) ?_
  refine J.aload0 X dX3_hits_7 ?_
  refine J.getf X dX3_hits_8 fl_X3_24_X3 (S.o) rfl ?_
  refine J.iload1 X dX3_hits_11 ?_
  refine J.iald X dX3_hits_12 (S.r_ht) (rfl) (by omega) ?_
  refine J.topi (y := nI ((s.2.2 2 k))) (((g3 k hkD).2.1)) ?_
  refine J.iconst (v := nI 1) X dX3_hits_13 (by decide) ?_
  refine J.iaddN X dX3_hits_14 ?_
  refine J.mmin X dX3_hits_15 q2463 (by decide) ?_
  refine J.topi (y := nI (min 99 (s.2.2 2 k + 1))) (mmin_nI (by decide) (by omega)) ?_
  refine J.sk_ht X dX3_hits_18 S (rfl) (by omega) (fun h S => ?_)
  have hm99 : min 99 (s.2.2 2 k + 1) ≤ 99 := Nat.min_le_left _ _
  have A1 : AW (upV s 2 k (min 99 (s.2.2 2 k + 1))) := A.V (Or.inr (Or.inl ⟨rfl, hm99⟩))
  have S1 : SA K t h B (upV s 2 k (min 99 (s.2.2 2 k + 1))) C e D := ⟨_, _, _, _, _, _, _, _, _, _, S.1, (S.2.SF g1).2, g2.V (by decide) k _, g3.ht k _, g4, g5, A1⟩
  have f1 := (S.2.SF g1).1
  have hki1 : k ∈ (upV s 2 k (min 99 (s.2.2 2 k + 1))).1 i := hki
  refine J.aload0 X dX3_hits_19 ?_
  refine J.iload1 X dX3_hits_20 ?_
  refine J.callVi X dX3_hits_21 lk_X3_150_X3 ce_X3_loses (sa_loses F S1 k4) (by decide) rfl (S.o) rfl (fun r h1 e1 _ => ?_)
  obtain ⟨e1, S2, f2⟩ := e1
  rw [awhere_of A1 hi hki1] at e1
  rw [adrop_mem A1 hi hki1] at S2
  subst e1
  have hkq := fun j hj => out_not A1 hi hki1 (j := j) hj
  have okn : ∀ q, q ≤ 2 → aok (aout (upV s 2 k (min 99 (s.2.2 2 k + 1))) i k) q k := fun q hq => by
    show k < 400 ∧ (1 ≤ (upV s 2 k (min 99 (s.2.2 2 k + 1))).2.2 0 k ∧ (upV s 2 k (min 99 (s.2.2 2 k + 1))).2.2 0 k ≤ 9) ∧ (upV s 2 k (min 99 (s.2.2 2 k + 1))).2.2 1 k ≤ 99 ∧ (upV s 2 k (min 99 (s.2.2 2 k + 1))).2.2 2 k ≤ 99 ∧ (upV s 2 k (min 99 (s.2.2 2 k + 1))).2.2 3 k ≤ 9 ∧ (upV s 2 k (min 99 (s.2.2 2 k + 1))).2.2 4 k ≤ 1 ∧ (3 ≤ q → _)
    have a1 := A1.2.2 i k hi hki1
    exact ⟨a1.1, a1.2.1, a1.2.2.1, a1.2.2.2.1, a1.2.2.2.2.1, a1.2.2.2.2.2.1, fun z => absurd z (by omega)⟩
  have S2' := S2
  clear T S g1 g2 g3 g4 g5 S1
  obtain ⟨wh, nx, ah, wt, ht, ch, pn, fi, la, to, T, g1, g2, g3, g4, g5, -⟩ := S2
  have S := T.S
  have hh : ht k = nI (min 99 (s.2.2 2 k + 1)) := by
    rw [(g3 k hkD).2.1]
    show nI ((upV s 2 k (min 99 (s.2.2 2 k + 1))).2.2 2 k) = _
    rw [upV_at, if_pos rfl]
  have hfin : ∀ q, aq q → q ≤ 2 → (if k ∈ s.1 1 then ain (aout (upV s 2 k (min 99 (s.2.2 2 k + 1))) 1 k) (if min 99 (s.2.2 2 k + 1) < C 2 then 1 else 2) k else ain (aout (upV s 2 k (min 99 (s.2.2 2 k + 1))) 2 k) 2 k) = ain (aout (upV s 2 k (min 99 (s.2.2 2 k + 1))) i k) q k → J M h1 50 [some (.ref B), some (.int (nI k)), some (.int (nI i))] [.int (nI q), .int (nI k), .ref B] := fun q hq hq2 e0 => by
    refine J.callVv X dX3_hits_50 lk_X3_146_X3 ce_X3_adds (sa_adds F S2' hq hkD hkq (okn q hq2)) (by decide) rfl (S.o) rfl (fun h2 e2 _ => ?_)
    refine J.vreturn X dX3_hits_53 (jRv.of ?_)
    have e9 : ahit s (C 2) k = ain (aout (upV s 2 k (min 99 (s.2.2 2 k + 1))) i k) q k := e0
    rw [e9]
    exact ⟨e2.1, (f1.tr f2).tr e2.2⟩
  refine J.istore2 X dX3_hits_24 ?_
  refine J.aload0 X dX3_hits_25 ?_
  refine J.iload1 X dX3_hits_26 ?_
  refine J.iload2 X dX3_hits_27 ?_
  refine J.iconst (v := nI 1) X dX3_hits_28 (by decide) ?_
  refine J.icmp_neN (tgt := 49) X dX3_hits_29 (by decide) (by omega) (by omega) (fun c1 => ?_) (fun c1 => ?_)
  · skip
    have hi' : i = 2 := by have := hi.1; omega
    have n1 : k ∉ s.1 1 := fun z => by have := A.1 1 i k aq1 hi z hki; omega
    refine J.iconst (v := nI 2) X dX3_hits_49 (by decide) ?_
    exact hfin 2 aq2 (by decide) (by rw [if_neg n1, hi'])
  · skip
    have hi' : i = 1 := c1
    subst hi'
    refine J.aload0 X dX3_hits_32 ?_
    refine J.getf X dX3_hits_33 fl_X3_24_X3 (S.o) rfl ?_
    refine J.iload1 X dX3_hits_36 ?_
    refine J.iald X dX3_hits_37 (S.r_ht) (rfl) (by omega) ?_
    refine J.topi (y := nI ((min 99 (s.2.2 2 k + 1)))) (hh) ?_
    refine J.aload0 X dX3_hits_38 ?_
    refine J.getf X dX3_hits_39 fl_X3_123_X3 (S.o) rfl ?_
    refine J.topi (y := nI ((C 2))) (rfl) ?_
    refine J.icmp_geN (tgt := 49) X dX3_hits_42 (by decide) (by omega) (by omega) (fun c2 => ?_) (fun c2 => ?_)
    · skip
      refine J.iconst (v := nI 2) X dX3_hits_49 (by decide) ?_
      exact hfin 2 aq2 (by decide) (by rw [if_pos hki, if_neg (by omega)])
    · skip
      refine J.iconst (v := nI 1) X dX3_hits_45 (by decide) ?_
      refine J.goto (tgt := 50) X dX3_hits_46 (by decide) ?_
      exact hfin 1 aq1 (by decide) (by rw [if_pos hki, if_pos (by omega)])
theorem sa_isThing {K : JK} {l : Launch} {hE : JIH} {t B : Nat} {s : AS} {C : Nat → Nat} {e : Nat} {D : Nat → Prop}  (F : JF K) (S : SA K t hE B s C e D) {k : Nat} (hk : k < 400) :
    Ct K l yX3_isThing wX3_isThing 0 [.ref B, .int (nI k)] hE (jRi (fun r h' => r = jB (k ∈ s.1 1 ∨ k ∈ s.1 2) ∧ hE = h')) jNo := by
  obtain ⟨wh, nx, ah, wt, ht, ch, pn, fi, la, to, T, g1, g2, g3, g4, g5, A⟩ := S
  refine (sk_isThing F T hk (g2.2 k hk).1).weaken (fun r h' z => ?_) (fun _ _ _ z => z)
  obtain ⟨r, rfl, e1, rfl⟩ := z
  refine ⟨r, rfl, ?_, rfl⟩
  rw [e1]
  have := g2.2 k hk
  exact jB_iff (or_congr (this.2 1 aq1) (this.2 2 aq2))
/-- the counters alone are written -/
theorem SA.C {K : JK} {t : Nat} {h : JIH} {B : Nat} {s : AS} {C C' : Nat → Nat} {e e' : Nat} {D : Nat → Prop} (S : SA K t h B s C e D) (h' : JIH) (g : ∀ (wh : Nat → Nat) (nx ah : Nat → Option Nat) (wt ht ch : Nat → Int32) (pn : Nat → Nat) (fi la : Nat → Option Nat) (to : Nat → Int32), SkR K h B wh nx ah wt ht ch pn fi la to (nI (C 0)) (nI (C 1)) (nI (C 2)) (nI (C 3)) (nI (C 4)) (nI (C 5)) (nI (C 6)) (nI (C 9)) (nI e) → SkS K h h' B wh nx ah wt ht ch pn fi la to (nI (C' 0)) (nI (C' 1)) (nI (C' 2)) (nI (C' 3)) (nI (C' 4)) (nI (C' 5)) (nI (C' 6)) (nI (C' 9)) (nI e')) : SA K t h' B s C' e' D ∧ SF t h h' := by
  obtain ⟨wh, nx, ah, wt, ht, ch, pn, fi, la, to, T, g1, g2, g3, g4, g5, A⟩ := S
  have q := g _ _ _ _ _ _ _ _ _ _ T
  exact ⟨⟨wh, nx, ah, wt, ht, ch, pn, fi, la, to, q.1, (q.2.SF g1).2, g2, g3, g4, g5, A⟩, (q.2.SF g1).1⟩
theorem sa_gets {K : JK} {l : Launch} {hE : JIH} {t B : Nat} {s : AS} {C : Nat → Nat} {e : Nat} {D : Nat → Prop}  (F : JF K) (S : SA K t hE B s C e D) (hC0 : C 0 < 1000) (hC1 : C 1 < 1000) (hC2 : C 2 < 1000) {k fu : Nat} (hk : k < 400) {s' : AS} {gs : List Nat} (hT : (k ∈ s.1 1 ∨ k ∈ s.1 2) → atrim (C 0) (C 1) fu (ahit s (C 2) k) s' gs) :
    Ct K l yX3_gets wX3_gets 5 [.ref B, .int (nI k)] hE (jRv (fun h' => ((¬ (k ∈ s.1 1 ∨ k ∈ s.1 2) ∧ ∃ D', SA K t h' B s (agetC s C k) e D') ∨ ((k ∈ s.1 1 ∨ k ∈ s.1 2) ∧ ∃ e' D', SA K t h' B s' (va_up (agetC s C k) 9 (C 9 + gs.length)) e' D')) ∧ SF t hE h')) jNo := by
  have S0 := S
  obtain ⟨wh, nx, ah, wt, ht, ch, pn, fi, la, to, T, g1, g2, g3, g4, g5, A⟩ := S
  have hwh := g2.wh hk
  have hw4 := (g2.2 k hk).1
  refine st_X3_gets (ls := [some (.ref B), some (.int (nI k))]) F rfl (body := fun M X => ?_)
  have S := T.S
  refine J.aload0 X dX3_gets_0 ?_
  refine J.iload1 X dX3_gets_1 ?_
  refine J.callVi X dX3_gets_2 lk_X3_186_X3 ce_X3_isThing (sa_isThing F S0 hk) (by decide) rfl (S.o) rfl (fun r h1 e1 _ => ?_)
  obtain ⟨rfl, rfl⟩ := e1
  refine J.if_neB (tgt := 38) X dX3_gets_5 (by decide) (fun c1 => ?_) (fun c1 => ?_)
  · skip
    refine J.aload0 X dX3_gets_38 ?_
    refine J.dup X dX3_gets_39 ?_
    refine J.getf X dX3_gets_40 fl_X3_128_X3 (S.o) rfl ?_
    refine J.iconst (v := nI 1) X dX3_gets_43 (by decide) ?_
    refine J.iadd X dX3_gets_44 ?_
    refine J.sk_s4 X dX3_gets_45 (pl_X3_128_X3 _) S (rfl) (rfl) (fun h S => ?_)
    rw [nI_add] at S
    have S1 : SA K t h B s (va_up (va_up C 4 (C 4 + 1)) 7 (C 7 + s.2.2 1 k)) e D := ⟨_, _, _, _, _, _, _, _, _, _, S.1, (S.2.SF g1).2, g2, g3, g4, g5, A⟩
    have f1 := (S.2.SF g1).1
    refine J.aload0 X dX3_gets_48 ?_
    refine J.iload1 X dX3_gets_49 ?_
    refine J.callVv X dX3_gets_50 lk_X3_190_X3 ce_X3_hits (sa_hits F S1 hC2 c1) (by decide) rfl (S.o) rfl (fun h2 e2 _ => ?_)
    obtain ⟨S2, f2⟩ := e2
    clear S T g1 g2 g3 g4 g5
    obtain ⟨wh, nx, ah, wt, ht, ch, pn, fi, la, to, S, w⟩ := S2.ex
    refine J.aload0 X dX3_gets_53 ?_
    refine J.callVv X dX3_gets_54 lk_X3_192_X3 ce_X3_trims (sa_trims F S2 hC0 hC1 (hT c1)) (by decide) rfl (S.o) rfl (fun h3 e3 _ => ?_)
    obtain ⟨e', D', S3, f3⟩ := e3
    refine J.vreturn X dX3_gets_57 (jRv.of ?_)
    refine ⟨Or.inr ⟨c1, e', D', ?_⟩, (f1.tr f2).tr f3⟩
    unfold agetC
    rw [if_pos c1]
    exact S3
  · skip
    have ee : agetC s C k = if awhere s k = 0 then va_up C 5 (C 5 + 1) else va_up (va_up C 5 (C 5 + 1)) 6 (C 6 + 1) := by unfold agetC; rw [if_neg c1]
    refine J.aload0 X dX3_gets_8 ?_
    refine J.dup X dX3_gets_9 ?_
    refine J.getf X dX3_gets_10 fl_X3_131_X3 (S.o) rfl ?_
    refine J.iconst (v := nI 1) X dX3_gets_13 (by decide) ?_
    refine J.iadd X dX3_gets_14 ?_
    refine J.sk_s5 X dX3_gets_15 (pl_X3_131_X3 _) S (rfl) (rfl) (fun h S => ?_)
    refine J.aload0 X dX3_gets_18 ?_
    refine J.getf X dX3_gets_19 fl_X3_11_X3 (S.o) rfl ?_
    refine J.iload1 X dX3_gets_22 ?_
    refine J.iald X dX3_gets_23 (S.r_wh) (rfl) (by omega) ?_
    rw [nI_add] at S
    refine J.if_eqN (tgt := 37) X dX3_gets_24 (by decide) (by omega) (fun c2 => ?_) (fun c2 => ?_)
    · skip
      refine J.vreturn X dX3_gets_37 (jRv.of ?_)
      rw [ee, if_pos (hwh ▸ c2)]
      exact ⟨Or.inl ⟨c1, D, _, _, _, _, _, _, _, _, _, _, S.1, (S.2.SF g1).2, g2, g3, g4, g5, A⟩, (S.2.SF g1).1⟩
    · skip
      refine J.aload0 X dX3_gets_27 ?_
      refine J.dup X dX3_gets_28 ?_
      refine J.getf X dX3_gets_29 fl_X3_134_X3 (S.o) rfl ?_
      refine J.iconst (v := nI 1) X dX3_gets_32 (by decide) ?_
      refine J.iadd X dX3_gets_33 ?_
      refine J.sk_s6 X dX3_gets_34 (pl_X3_134_X3 _) S (rfl) (rfl) (fun h S => ?_)
      rw [nI_add] at S
      refine J.vreturn X dX3_gets_37 (jRv.of ?_)
      rw [ee, if_neg (hwh ▸ c2)]
      exact ⟨Or.inl ⟨c1, D, _, _, _, _, _, _, _, _, _, _, S.1, (S.2.SF g1).2, g2, g3, g4, g5, A⟩, (S.2.SF g1).1⟩
