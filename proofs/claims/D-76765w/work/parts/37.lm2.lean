/-! LinkedHashMap: hash, nodes, links -/
/-- the bins of a table -/
def Bn (Q : List Nat) (ea : Nat → Nat) (nx : Nat → Option Nat) (n : Nat) (f : Nat → Option Nat) (B : Nat → List Nat) : Prop := ∀ j, j < n → f j = ((B j).head?).map ea ∧ Chn nx (B j).head? (B j) ∧ (B j).Nodup ∧ ∀ k, k ∈ B j ↔ (k ∈ Q ∧ hsh k % n = j)
/-- what is kept true of a map -/
def LmW (Q : List Nat) (ea : Nat → Nat) (nx bf af : Nat → Option Nat) (tb : Option Nat) (n : Nat) (f : Nat → Option Nat) (th : Nat) (hd tl : Option Nat) : Prop :=
  Q.Nodup ∧ Dl bf af none Q ∧ hd = Q.head? ∧ tl = lst none Q ∧ ((tb = none ∧ n = 0 ∧ th = 0 ∧ Q = []) ∨ ∃ a q B, tb = some a ∧ 4 ≤ q ∧ q ≤ 10 ∧ n = 2 ^ q ∧ 4 * th = 3 * n ∧ Bn Q ea nx n f B)
theorem pow_le {q : Nat} (h1 : 4 ≤ q) (h2 : q ≤ 10) : 16 ≤ 2 ^ q ∧ 2 ^ q ≤ 1024 := by
  rcases (show q = 4 ∨ q = 5 ∨ q = 6 ∨ q = 7 ∨ q = 8 ∨ q = 9 ∨ q = 10 by omega) with rfl | rfl | rfl | rfl | rfl | rfl | rfl <;> decide
theorem hm_hash {K : JK} {l : Launch} {hE : JIH} (F : JF K) {a k : Nat} (g : IsKey hE a k) :
    Ct K l yJ1_hash wJ1_hash 1 [.ref a] hE (jRi (fun r h' => r = nI (hsh k) ∧ hE = h')) jNo := by
  have hk := g.1
  refine st_J1_hash (ls := [some (.ref a), none]) F rfl (body := fun M X => ?_)
  refine J.aload0 X dJ1_hash_0 ?_
  refine J.ifnonnullR (tgt := 8) X dJ1_hash_1 (by decide) ?_
  refine J.aload0 X dJ1_hash_8 ?_
  refine J.callUi X dJ1_hash_9 lk_J1_1_X8 ce_X8_hashCode (ky_hashCode F g.2.1) (by decide) rfl (g.2.1) rfl (fun r h' e _ => ?_)
  obtain ⟨rfl, rfl⟩ := e
  refine J.dup X dJ1_hash_12 ?_
  refine J.istore1 X dJ1_hash_13 ?_
  refine J.iload1 X dJ1_hash_14 ?_
  refine J.bipush (v := nI 16) X dJ1_hash_15 (by decide) ?_
  refine J.iushr X dJ1_hash_17 ?_
  refine J.ixor X dJ1_hash_18 ?_
  refine J.zreturn X dJ1_hash_19 (rfl) (jRi.of ?_)
  refine ⟨?_, rfl⟩
  rw [show 101 * (k / 100) + k % 100 = hsh k by unfold hsh; omega]
  exact xush (by have := hsh_lt hk; omega)
theorem lm_link {K : JK} {l : Launch} {hE : JIH} {t m : Nat} {D : List Nat} {ea : Nat → Nat} {ka : Nat → Nat} {ta : Nat → Nat} {nx : Nat → Option Nat} {bf : Nat → Option Nat} {af : Nat → Option Nat} {tb : Option Nat} {n : Nat} {f : Nat → Option Nat} {es : Option Nat} {ks : Option Nat} {vs : Option Nat} {sz : Nat} {mc : Int32} {th : Nat} {lf : Value} {hd : Option Nat} {tl : Option Nat} (F : JF K) (T : LmR K t hE m D ea ka ta nx bf af tb n f es ks vs sz mc th lf hd tl) {k : Nat} (hk : k ∈ D) (htl : ∀ z, tl = some z → z ∈ D) :
    Ct K l yJ2_linkNodeAtEnd wJ2_linkNodeAtEnd 0 [.ref m, .ref (ea k)] hE (jRv (fun h' => LmS K t 0 hE h' m D ea ka ta nx (oel (tl) (bf) (fun z => va_up bf k (some z))) (oel (tl) (af) (fun z => va_up af z (some k))) tb n f es ks vs sz mc th lf (oel (tl) (some k) (fun _ => hd)) (some k))) jNo := by
  refine st_J2_linkNodeAtEnd (ls := [some (.ref m), some (.ref (ea k)), none]) F rfl (body := fun M X => ?_)
  have S := T.S
  refine J.aload0 X dJ2_linkNodeAtEnd_0 ?_
  refine J.getf X dJ2_linkNodeAtEnd_1 fl_J2_1_J2 (S.o) rfl ?_
  refine J.iconst (v := nI 1) X dJ2_linkNodeAtEnd_4 (by decide) ?_
  refine J.icmp_neN (tgt := 43) X dJ2_linkNodeAtEnd_5 (by decide) (by omega) (by omega) (fun _ => ?_) (fun q9 => absurd q9 (by omega))
  refine J.aload0 X dJ2_linkNodeAtEnd_43 ?_
  refine J.getf X dJ2_linkNodeAtEnd_44 fl_J2_11_J2 (S.o) rfl ?_
  refine J.astore2 X dJ2_linkNodeAtEnd_47 ?_
  refine J.aload0 X dJ2_linkNodeAtEnd_48 ?_
  refine J.aload1 X dJ2_linkNodeAtEnd_49 ?_
  refine J.lm_tl (x := some k) X dJ2_linkNodeAtEnd_50 (pl_J2_11_J2 _) S rfl (fun h S => ?_)
  refine J.aload2 X dJ2_linkNodeAtEnd_53 ?_
  cases hb : tl with
  | none =>
    refine J.ifnonnullN (a := 0) (tgt := 65) X dJ2_linkNodeAtEnd_54 (by decide) ?_
    refine J.aload0 X dJ2_linkNodeAtEnd_57 ?_
    refine J.aload1 X dJ2_linkNodeAtEnd_58 ?_
    refine J.lm_hd (x := some k) X dJ2_linkNodeAtEnd_59 (pl_J2_7_J2 _) S rfl (fun h S => ?_)
    refine J.goto (tgt := 75) X dJ2_linkNodeAtEnd_62 (by decide) ?_
    refine J.vreturn X dJ2_linkNodeAtEnd_75 (jRv.of ?_)
    rw [hb]
    exact S
  | some z =>
    have hz := htl z hb
    refine J.ifnonnullR (tgt := 65) X dJ2_linkNodeAtEnd_54 (by decide) ?_
    refine J.aload1 X dJ2_linkNodeAtEnd_65 ?_
    refine J.aload2 X dJ2_linkNodeAtEnd_66 ?_
    refine J.lm_bf (k := k) (x := some z) X dJ2_linkNodeAtEnd_67 (pl_J2_19_J34 _) S hk rfl (fun h S => ?_)
    refine J.aload2 X dJ2_linkNodeAtEnd_70 ?_
    refine J.aload1 X dJ2_linkNodeAtEnd_71 ?_
    refine J.lm_af (k := z) (x := some k) X dJ2_linkNodeAtEnd_72 (pl_J2_14_J34 _) S hz rfl (fun h S => ?_)
    refine J.vreturn X dJ2_linkNodeAtEnd_75 (jRv.of ?_)
    rw [hb]
    exact S
theorem lm_newNode {K : JK} {l : Launch} {hE : JIH} {t m : Nat} {D : List Nat} {ea : Nat → Nat} {ka : Nat → Nat} {ta : Nat → Nat} {nx : Nat → Option Nat} {bf : Nat → Option Nat} {af : Nat → Option Nat} {tb : Option Nat} {n : Nat} {f : Nat → Option Nat} {es : Option Nat} {ks : Option Nat} {vs : Option Nat} {sz : Nat} {mc : Int32} {th : Nat} {lf : Value} {hd : Option Nat} {tl : Option Nat} (F : JF K) (T : LmR K t hE m D ea ka ta nx bf af tb n f es ks vs sz mc th lf hd tl) {k x y : Nat} (hk : k ∉ D) (hk4 : k < 400) (hd1 : ∀ z, hd = some z → z ∈ D) (htl : ∀ z, tl = some z → z ∈ D) (h1 : ∀ j ∈ D, nx j ≠ some k ∧ bf j ≠ some k ∧ af j ≠ some k) (hr : hres hE + 14 ≤ jRL) :
    Ct K l yJ2_newNode wJ2_newNode 3 [.ref m, .int (nI (hsh k)), .ref x, .ref y, .null] hE (jRa (fun r h' => r = some (hnew hE) ∧ LmS K t 14 hE h' m (k :: D) (va_up ea k (hnew hE)) (va_up ka k x) (va_up ta k y) (va_up nx k none) (oel (tl) (va_up bf k none) (fun z => va_up (va_up bf k none) k (some z))) (oel (tl) (va_up af k none) (fun z => va_up (va_up af k none) z (some k))) tb n f es ks vs sz mc th lf (oel (tl) (some k) (fun _ => hd)) (some k))) jNo := by
  refine st_J2_newNode (ls := [some (.ref m), some (.int (nI (hsh k))), some (.ref x), some (.ref y), some (.null), none]) F rfl (body := fun M X => ?_)
  refine J.new (ci := 13) (t) X dJ2_newNode_0 jcl_13 cl_J2_15 rfl (hr) ?_
  refine J.dup X dJ2_newNode_3 ?_
  refine J.iload1 X dJ2_newNode_4 ?_
  refine J.aload2 X dJ2_newNode_5 ?_
  refine J.aload3 X dJ2_newNode_6 ?_
  refine J.aload4 X dJ2_newNode_7 ?_
  refine J.callI X dJ2_newNode_9 lk_J2_28 ce_J34_init (en_init1 F (hget_push_new _ _ _) (nI (hsh k)) x y) (by decide) rfl (fun h' e _ => ?_)
  subst e
  rw [hset_push_new]
  have T2 := (T.push t (jO 13 [.int (nI (hsh k)), .ref x, .ref y, .null, .null, .null])).addE (k := k) (a := hnew hE) (x := x) (y := y) hk hk4 (fun z => hk (hd1 k z)) (fun z => hk (htl k z)) h1 (hc.new _ _ _)
  have e9 : va_up ea k (hnew hE) k = hnew hE := va_up_self _ _ _
  have CL := lm_link (l := l) F T2 (k := k) List.mem_cons_self (fun z hz => List.mem_cons_of_mem _ (htl z hz))
  rw [e9] at CL
  refine J.astore5 X dJ2_newNode_12 ?_
  refine J.aload0 X dJ2_newNode_14 ?_
  refine J.aload5 X dJ2_newNode_15 ?_
  refine J.callVv X dJ2_newNode_17 lk_J2_32_J2 ce_J2_linkNodeAtEnd (CL) (by decide) rfl (T2.1.1) rfl (fun h' S _ => ?_)
  refine J.aload5 X dJ2_newNode_20 ?_
  refine J.areturnO X dJ2_newNode_22 (jRa.ofR ?_)
  refine ⟨rfl, S.1, (Fr.push _ _ _ _).tr S.2.1, ?_⟩
  rw [S.2.2, hres_push]
  rfl
theorem lm_afterIns {K : JK} {l : Launch} {hE : JIH} {t m : Nat} {D : List Nat} {ea : Nat → Nat} {ka : Nat → Nat} {ta : Nat → Nat} {nx : Nat → Option Nat} {bf : Nat → Option Nat} {af : Nat → Option Nat} {tb : Option Nat} {n : Nat} {f : Nat → Option Nat} {es : Option Nat} {ks : Option Nat} {vs : Option Nat} {sz : Nat} {mc : Int32} {th : Nat} {lf : Value} {hd : Option Nat} {tl : Option Nat} (F : JF K) (T : LmR K t hE m D ea ka ta nx bf af tb n f es ks vs sz mc th lf hd tl) :
    Ct K l yJ2_afterNodeInsertion wJ2_afterNodeInsertion 1 [.ref m, .int (nI 1)] hE (jRv (fun h' => hE = h')) jNo := by
  have hel : ∀ e : Nat, Ct K l yJ2_removeEldestEntry wJ2_removeEldestEntry 0 [.ref m, .ref e] hE (jRi (fun r h' => r = nI 0 ∧ hE = h')) jNo := by
    intro e
    refine st_J2_removeEldestEntry (ls := [some (.ref m), some (.ref e)]) F rfl (body := fun M X => ?_)
    refine J.iconst (v := nI 0) X dJ2_removeEldestEntry_0 (by decide) ?_
    refine J.zreturn X dJ2_removeEldestEntry_1 (rfl) (jRi.of ?_)
    exact ⟨rfl, rfl⟩
  refine st_J2_afterNodeInsertion (ls := [some (.ref m), some (.int (nI 1)), none, none]) F rfl (body := fun M X => ?_)
  refine J.iload1 X dJ2_afterNodeInsertion_0 ?_
  refine J.if_eqN (tgt := 39) X dJ2_afterNodeInsertion_1 (by decide) (by omega) (fun q9 => absurd q9 (by omega)) (fun _ => ?_)
  refine J.aload0 X dJ2_afterNodeInsertion_4 ?_
  refine J.getf X dJ2_afterNodeInsertion_5 fl_J2_7_J2 (T.1.1) rfl ?_
  refine J.dup X dJ2_afterNodeInsertion_8 ?_
  refine J.astore2 X dJ2_afterNodeInsertion_9 ?_
  cases hb : hd with
  | none =>
    refine J.ifnullN (a := 0) (tgt := 39) X dJ2_afterNodeInsertion_10 (by decide) ?_
    refine J.vreturn X dJ2_afterNodeInsertion_39 (jRv.of ?_)
    rfl
  | some z =>
    refine J.ifnullR (tgt := 39) X dJ2_afterNodeInsertion_10 (by decide) ?_
    refine J.aload0 X dJ2_afterNodeInsertion_13 ?_
    refine J.aload2 X dJ2_afterNodeInsertion_14 ?_
    refine J.callVi X dJ2_afterNodeInsertion_15 lk_J2_53_J2 ce_J2_removeEldestEntry (hel (ea z)) (by decide) rfl (T.1.1) rfl (fun r h' e _ => ?_)
    obtain ⟨rfl, rfl⟩ := e
    refine J.if_eqN (tgt := 39) X dJ2_afterNodeInsertion_18 (by decide) (by omega) (fun _ => ?_) (fun q9 => absurd q9 (by omega))
    refine J.vreturn X dJ2_afterNodeInsertion_39 (jRv.of ?_)
    rfl
theorem lm_afterRem {K : JK} {l : Launch} {hE : JIH} {t m : Nat} {D : List Nat} {ea : Nat → Nat} {ka : Nat → Nat} {ta : Nat → Nat} {nx : Nat → Option Nat} {bf : Nat → Option Nat} {af : Nat → Option Nat} {tb : Option Nat} {n : Nat} {f : Nat → Option Nat} {es : Option Nat} {ks : Option Nat} {vs : Option Nat} {sz : Nat} {mc : Int32} {th : Nat} {lf : Value} {hd : Option Nat} {tl : Option Nat} (F : JF K) (T : LmR K t hE m D ea ka ta nx bf af tb n f es ks vs sz mc th lf hd tl) {k : Nat} (hk : k ∈ D) (hb : ∀ z, bf k = some z → z ∈ D ∧ z ≠ k) (ha : ∀ z, af k = some z → z ∈ D ∧ z ≠ k) :
    Ct K l yJ2_afterNodeRemoval wJ2_afterNodeRemoval 0 [.ref m, .ref (ea k)] hE (jRv (fun h' => ∃ bf' af' : Nat → Option Nat, (∀ x, x ≠ k → bf' x = if af k = some x then bf k else bf x) ∧ (∀ x, x ≠ k → af' x = if bf k = some x then af k else af x) ∧ LmS K t 0 hE h' m D ea ka ta nx (bf') (af') tb n f es ks vs sz mc th lf (oel (bf k) (af k) (fun _ => hd)) (oel (af k) (bf k) (fun _ => tl)))) jNo := by
  refine st_J2_afterNodeRemoval (ls := [some (.ref m), some (.ref (ea k)), none, none, none]) F rfl (body := fun M X => ?_)
  have S := T.S
  refine J.aload1 X dJ2_afterNodeRemoval_0 ?_
  refine J.castS X dJ2_afterNodeRemoval_1 cl_J2_15 jcl_13 ((S.e hk)) ?_
  refine J.astore2 X dJ2_afterNodeRemoval_4 ?_
  refine J.aload2 X dJ2_afterNodeRemoval_5 ?_
  refine J.getf X dJ2_afterNodeRemoval_6 fl_J2_19_J34 ((S.e hk)) rfl ?_
  refine J.astore3 X dJ2_afterNodeRemoval_9 ?_
  refine J.aload2 X dJ2_afterNodeRemoval_10 ?_
  refine J.getf X dJ2_afterNodeRemoval_11 fl_J2_14_J34 ((S.e hk)) rfl ?_
  refine J.astore4 X dJ2_afterNodeRemoval_14 ?_
  refine J.aload2 X dJ2_afterNodeRemoval_16 ?_
  refine J.aload2 X dJ2_afterNodeRemoval_17 ?_
  refine J.aconst_null X dJ2_afterNodeRemoval_18 ?_
  refine J.at (pc' := 19) rfl ?_
  refine J.dup_x1 X dJ2_afterNodeRemoval_19 ?_
  refine J.lm_af (k := k) (x := none) X dJ2_afterNodeRemoval_20 (pl_J2_14_J34 _) S hk rfl (fun h S => ?_)
  refine J.lm_bf (k := k) (x := none) X dJ2_afterNodeRemoval_23 (pl_J2_19_J34 _) S hk rfl (fun h S => ?_)
  refine J.aload3 X dJ2_afterNodeRemoval_26 ?_
  generalize hbk : bf k = b at hb ⊢
  generalize hak : af k = a at ha ⊢
  -- the second half
  have fin : ∀ (h : JIH) (af1 : Nat → Option Nat) (hd1 : Option Nat), (∀ x, x ≠ k → af1 x = if b = some x then a else af x) → hd1 = oel (b) (a) (fun _ => hd) → LmS K t 0 hE h m D ea ka ta nx (va_up bf k none) (af1) tb n f es ks vs sz mc th lf (hd1) tl → J M h 45 [some (.ref m), some (.ref (ea k)), some (.ref (ea k)), some (va_rf (b.map ea)), some (va_rf (a.map ea))] [] := by
    intro h af1 hd1 h1 h2 S
    refine J.aload4 X dJ2_afterNodeRemoval_45 ?_
    cases a with
    | none =>
      refine J.ifnonnullN (a := 0) (tgt := 58) X dJ2_afterNodeRemoval_47 (by decide) ?_
      refine J.aload0 X dJ2_afterNodeRemoval_50 ?_
      refine J.aload3 X dJ2_afterNodeRemoval_51 ?_
      refine J.lm_tl (x := b) X dJ2_afterNodeRemoval_52 (pl_J2_11_J2 _) S rfl (fun h S => ?_)
      refine J.goto (tgt := 64) X dJ2_afterNodeRemoval_55 (by decide) ?_
      refine J.vreturn X dJ2_afterNodeRemoval_64 (jRv.of ?_)
      rw [hbk, hak, ← h2]
      refine ⟨va_up bf k none, af1, fun x hx => ?_, h1, S⟩
      rw [va_up_ne _ _ hx, if_neg (fun z => by cases z)]
    | some w =>
      have hw := ha w rfl
      refine J.ifnonnullR (tgt := 58) X dJ2_afterNodeRemoval_47 (by decide) ?_
      refine J.aload4 X dJ2_afterNodeRemoval_58 ?_
      refine J.aload3 X dJ2_afterNodeRemoval_60 ?_
      refine J.lm_bf (k := w) (x := b) X dJ2_afterNodeRemoval_61 (pl_J2_19_J34 _) S hw.1 rfl (fun h S => ?_)
      refine J.vreturn X dJ2_afterNodeRemoval_64 (jRv.of ?_)
      rw [hbk, hak, ← h2]
      refine ⟨va_up (va_up bf k none) w b, af1, fun x hx => ?_, h1, S⟩
      by_cases e : x = w
      · rw [e, va_up_self, if_pos rfl]
      · rw [va_up_ne _ _ e, va_up_ne _ _ hx, if_neg (fun z => e (Option.some.inj z).symm)]
  cases b with
  | none =>
    refine J.ifnonnullN (a := 0) (tgt := 39) X dJ2_afterNodeRemoval_27 (by decide) ?_
    refine J.aload0 X dJ2_afterNodeRemoval_30 ?_
    refine J.aload4 X dJ2_afterNodeRemoval_31 ?_
    refine J.lm_hd (x := a) X dJ2_afterNodeRemoval_33 (pl_J2_7_J2 _) S rfl (fun h S => ?_)
    refine J.goto (tgt := 45) X dJ2_afterNodeRemoval_36 (by decide) ?_
    refine fin _ _ _ (fun x hx => ?_) rfl S
    rw [va_up_ne _ _ hx, if_neg (fun z => by cases z)]
  | some z =>
    have hz := hb z rfl
    refine J.ifnonnullR (tgt := 39) X dJ2_afterNodeRemoval_27 (by decide) ?_
    refine J.aload3 X dJ2_afterNodeRemoval_39 ?_
    refine J.aload4 X dJ2_afterNodeRemoval_40 ?_
    refine J.lm_af (k := z) (x := a) X dJ2_afterNodeRemoval_42 (pl_J2_14_J34 _) S hz.1 rfl (fun h S => ?_)
    refine fin _ _ _ (fun x hx => ?_) rfl S
    by_cases e : x = z
    · rw [e, va_up_self, if_pos rfl]
    · rw [va_up_ne _ _ e, va_up_ne _ _ hx, if_neg (fun q => e (Option.some.inj q).symm)]
