/-! LinkedHashMap: a key is put -/
theorem bin_le {L : List Nat} {n j : Nat} (h : L.Nodup) (g : ∀ x ∈ L, x < 400 ∧ hsh x % n = j) (hn : 64 ≤ n) : L.length ≤ 7 := by
  have h1 : (L.map (fun x => hsh x / n)).Nodup := by
    unfold List.Nodup
    rw [List.pairwise_map]
    refine List.Pairwise.imp_of_mem (fun {a b} ha hb hab e => hab ?_) h
    apply hsh_inj
    rw [← Nat.div_add_mod (hsh a) n, ← Nat.div_add_mod (hsh b) n, e, (g a ha).2, (g b hb).2]
  have h2 := nodup_lt (N := 7) h1 (fun y hy => by
    obtain ⟨x, hx, rfl⟩ := List.mem_map.mp hy
    have := hsh_lt (g x hx).1
    exact Nat.div_lt_of_lt_mul (by omega))
  rwa [List.length_map] at h2
theorem LmW.add {Q : List Nat} {ea : Nat → Nat} {nx bf af nx' : Nat → Option Nat} {tb : Option Nat} {n th : Nat} {f f' : Nat → Option Nat} {hd tl : Option Nat} (W : LmW Q ea nx bf af tb n f th hd tl) {a q : Nat} {B : Nat → List Nat} (htb : tb = some a) (hq : 4 ≤ q) (hq' : q ≤ 10) (hn : n = 2 ^ q) (hth : 4 * th = 3 * n) (hB : Bn Q ea nx n f B) {k j a' : Nat} (hk : k ∉ Q) (hj : hsh k % n = j)
    (hc : (B j = [] ∧ nx' = va_up nx k none ∧ f' = va_up f j (some a')) ∨ (∃ z, lst none (B j) = some z ∧ nx' = va_up (va_up nx k none) z (some k) ∧ f' = f)) :
    LmW (Q ++ [k]) (va_up ea k a') nx' (oel tl (va_up bf k none) (fun z => va_up (va_up bf k none) k (some z))) (oel tl (va_up af k none) (fun z => va_up (va_up af k none) z (some k))) tb n f' th (oel tl (some k) (fun _ => hd)) (some k) := by
  obtain ⟨hnd, hdl, rfl, rfl, -⟩ := W
  have hjn : j < n := by rw [← hj]; exact Nat.mod_lt _ (by have := pow_le hq hq'; omega)
  have em : ∀ l : List Nat, (∀ x ∈ l, x ≠ k) → (l.head?).map (va_up ea k a') = (l.head?).map ea := by
    intro l hl
    cases l with
    | nil => rfl
    | cons x r => show some _ = some _; rw [va_up_ne _ _ (hl x List.mem_cons_self)]
  have hBk : ∀ i, i < n → ∀ x ∈ B i, x ≠ k := fun i hi x hx z => hk (z ▸ (((hB i hi).2.2.2 x).mp hx).1)
  refine ⟨nodup_snoc hnd hk, ?_, ?_, ?_, Or.inr ⟨a, q, va_up B j (B j ++ [k]), htb, hq, hq', hn, hth, fun i hi => ?_⟩⟩
  · cases hl : lst none Q with
    | none =>
      have h0 := lst_none hl
      subst h0
      exact ⟨va_up_self _ _ _, va_up_self _ _ _, trivial⟩
    | some z =>
      have hz := lst_in hl
      have hzk : z ≠ k := fun e => hk (e ▸ hz)
      refine Dl.add hdl hnd hk ?_ ?_ ?_ ?_ ?_
      · show va_up (va_up bf k none) k (some z) k = _
        rw [va_up_self, hl]
      · show va_up (va_up af k none) z (some k) k = _
        rw [va_up_ne _ _ (fun e => hzk e.symm), va_up_self]
      · intro x hx
        have : x ≠ k := fun e => hk (e ▸ hx)
        show va_up (va_up bf k none) k (some z) x = _
        rw [va_up_ne _ _ this, va_up_ne _ _ this]
      · intro x hx hne
        have : x ≠ k := fun e => hk (e ▸ hx)
        show va_up (va_up af k none) z (some k) x = _
        rw [va_up_ne _ _ (fun e => hne (by rw [hl, e])), va_up_ne _ _ this]
      · intro x hx
        rw [hl] at hx
        cases hx
        exact va_up_self _ _ _
  · cases Q with
    | nil => rfl
    | cons x r =>
      cases hl : lst none (x :: r) with
      | none => cases lst_none hl
      | some z => rfl
  · rw [lst_app]; rfl
  · by_cases e : i = j
    · subst e
      rw [va_up_self]
      obtain ⟨hf, hch, hbn, hmem⟩ := hB i hi
      have hkB : k ∉ B i := fun z => hBk i hi k z rfl
      have hm2 : ∀ x, x ∈ B i ++ [k] ↔ (x ∈ Q ++ [k] ∧ hsh x % n = i) := by
        intro x
        rw [List.mem_append, List.mem_append, List.mem_singleton, hmem]
        refine ⟨fun z => z.elim (fun z => ⟨Or.inl z.1, z.2⟩) (fun z => ⟨Or.inr z, by rw [z]; exact hj⟩), fun z => z.1.elim (fun w => Or.inl ⟨w, z.2⟩) (fun w => Or.inr w)⟩
      rcases hc with ⟨h0, rfl, rfl⟩ | ⟨z, hz, rfl, rfl⟩
      · rw [h0] at hm2 ⊢
        refine ⟨?_, ⟨rfl, va_up_self _ _ _⟩, by simp, hm2⟩
        rw [va_up_self]
        show some a' = some (va_up ea k a' k)
        rw [va_up_self]
      · have hne : (B i ++ [k]).head? = (B i).head? := by
          cases hq : B i with
          | nil => rw [hq] at hz; cases hz
          | cons a b => rfl
        have hzB := lst_in hz
        refine ⟨?_, ?_, nodup_snoc hbn hkB, hm2⟩
        · rw [hne, em _ (hBk i hi)]; exact hf
        · rw [hne]
          refine Chn.add (nx := nx) hch hbn hz ?_ ?_ (va_up_self _ _ _)
          · rw [va_up_ne _ _ (fun e => hkB (by rw [e]; exact hzB)), va_up_self]
          · intro x hx hxz
            rw [va_up_ne _ _ hxz, va_up_ne _ _ (hBk i hi x hx)]
    · rw [va_up_ne _ _ e]
      obtain ⟨hf, hch, hbn, hmem⟩ := hB i hi
      have hm2 : ∀ x, x ∈ B i ↔ (x ∈ Q ++ [k] ∧ hsh x % n = i) := by
        intro x
        rw [List.mem_append, List.mem_singleton, hmem]
        refine ⟨fun z => ⟨Or.inl z.1, z.2⟩, fun z => z.1.elim (fun w => ⟨w, z.2⟩) (fun w => ?_)⟩
        rw [w, hj] at z
        exact absurd z.2.symm e
      rcases hc with ⟨h0, rfl, rfl⟩ | ⟨z, hz, rfl, rfl⟩
      · refine ⟨by rw [va_up_ne _ _ e, em _ (hBk i hi)]; exact hf, hch.congr fun x hx => va_up_ne _ _ (hBk i hi x hx), hbn, hm2⟩
      · refine ⟨by rw [em _ (hBk i hi)]; exact hf, hch.congr fun x hx => ?_, hbn, hm2⟩
        rw [va_up_ne _ _ (fun q9 => ?_), va_up_ne _ _ (hBk i hi x hx)]
        rw [q9] at hx
        exact e (by rw [← ((hmem z).mp hx).2, (((hB j hjn).2.2.2 z).mp (lst_in hz)).2])
theorem lm_treeify {K : JK} {l : Launch} {hE : JIH} {t m tA : Nat} {D : List Nat} {ea : Nat → Nat} {ka : Nat → Nat} {ta : Nat → Nat} {nx : Nat → Option Nat} {bf : Nat → Option Nat} {af : Nat → Option Nat} {n : Nat} {f : Nat → Option Nat} {es : Option Nat} {ks : Option Nat} {vs : Option Nat} {sz : Nat} {mc : Int32} {th : Nat} {lf : Value} {hd : Option Nat} {tl : Option Nat} (F : JF K) (T : LmR K t hE m D ea ka ta nx bf af (some tA) n f es ks vs sz mc th lf hd tl) (W : LmW D ea nx bf af (some tA) n f th hd tl) (hn9 : n < 64) (hr : hres hE + (8 + 2 * n) ≤ jRL) (x : Int32) :
    Ct K l yJ1_treeifyBin wJ1_treeifyBin 1 [.ref m, .ref tA, .int x] hE (jRv (fun h' => ∃ (a : Nat) (nx' f' : Nat → Option Nat), LmS K t (8 + 2 * n) hE h' m D ea ka ta (nx') bf af (some a) (2 * n) (f') es ks vs sz mc (2 * th) lf hd tl ∧ LmW D ea nx' bf af (some a) (2 * n) f' (2 * th) hd tl)) jNo := by
  refine st_J1_treeifyBin (ls := [some (.ref m), some (.ref tA), some (.int x), none, none, none, none, none, none]) F rfl (body := fun M X => ?_)
  refine J.aload1 X dJ1_treeifyBin_0 ?_
  refine J.ifnullR (tgt := 13) X dJ1_treeifyBin_1 (by decide) ?_
  refine J.aload1 X dJ1_treeifyBin_4 ?_
  refine J.alen (t := 6) (v := nI n) X dJ1_treeifyBin_5 ((T.2.2.1 tA rfl).1) rfl (rfl) ?_
  refine J.dup X dJ1_treeifyBin_6 ?_
  refine J.istore3 X dJ1_treeifyBin_7 ?_
  refine J.bipush (v := nI 64) X dJ1_treeifyBin_8 (by decide) ?_
  refine J.icmp_geN (tgt := 21) X dJ1_treeifyBin_10 (by decide) (by omega) (by omega) (fun q9 => absurd q9 (by omega)) (fun _ => ?_)
  refine J.aload0 X dJ1_treeifyBin_13 ?_
  refine J.callVa X dJ1_treeifyBin_14 lk_J1_117_J2 ce_J1_resize (lm_resize F T W (by omega) hr) (by decide) rfl (T.1.1) rfl (fun r h' e _ => ?_)
  obtain ⟨a, nx', f', -, S, W'⟩ := e
  refine J.pop X dJ1_treeifyBin_17 ?_
  refine J.goto (tgt := 109) X dJ1_treeifyBin_18 (by decide) ?_
  refine J.vreturn X dJ1_treeifyBin_109 (jRv.of ?_)
  exact ⟨a, nx', f', S, W'⟩
theorem LmW.n9 {Q : List Nat} {ea : Nat → Nat} {nx bf af : Nat → Option Nat} {tA n th : Nat} {f : Nat → Option Nat} {hd tl : Option Nat} (W : LmW Q ea nx bf af (some tA) n f th hd tl) (h : 4 * th < 1600) : n ≤ 512 := by
  rcases W.2.2.2.2 with ⟨z, -⟩ | ⟨a, q, B, -, h4, h10, hn, hth, -⟩
  · cases z
  rcases Nat.lt_or_ge q 10 with c | c
  · rcases (show q = 4 ∨ q = 5 ∨ q = 6 ∨ q = 7 ∨ q = 8 ∨ q = 9 by omega) with rfl | rfl | rfl | rfl | rfl | rfl <;> omega
  · rw [show q = 10 by omega] at hn
    exfalso
    rw [show (2 : Nat) ^ 10 = 1024 from rfl] at hn
    omega
theorem lm_putVal {K : JK} {l : Launch} {hE : JIH} {t m : Nat} {D : List Nat} {ea : Nat → Nat} {ka : Nat → Nat} {ta : Nat → Nat} {nx : Nat → Option Nat} {bf : Nat → Option Nat} {af : Nat → Option Nat} {tb : Option Nat} {n : Nat} {f : Nat → Option Nat} {es : Option Nat} {ks : Option Nat} {vs : Option Nat} {sz : Nat} {mc : Int32} {th : Nat} {lf : Value} {hd : Option Nat} {tl : Option Nat} (F : JF K) (T : LmR K t hE m D ea ka ta nx bf af tb n f es ks vs sz mc th lf hd tl) (W : LmW D ea nx bf af tb n f th hd tl) (hsz : sz = D.length) {a v k : Nat} (hk4 : k < 400) (hk : k ∉ D) (hr : hres hE + 8192 ≤ jRL) :
    Ct K l yJ1_putVal wJ1_putVal 5 [.ref m, .int (nI (hsh k)), .ref a, .ref v, .int (nI 0), .int (nI 1)] hE (jRa (fun r h' => r = none ∧ ∃ (a' n' th' : Nat) (nx' bf' af' f' : Nat → Option Nat) (tb' hd' tl' : Option Nat), LmR K t h' m (D ++ [k]) (va_up ea k a') (va_up ka k a) (va_up ta k v) (nx') (bf') (af') (tb') (n') (f') es ks vs (sz + 1) (mc + nI 1) (th') lf (hd') (tl') ∧ LmW (D ++ [k]) (va_up ea k a') nx' bf' af' tb' n' f' th' hd' tl' ∧ Fr (fun x => x = t) hE h' ∧ n ≤ n' ∧ hres h' + 3 * n ≤ hres hE + 14 + 3 * n')) jNo := by
  have bk := hsh_lt hk4
  have hD4 : ∀ x ∈ D, x < 400 := fun x hx => (T.2.1 x hx).1
  have hlen : (D ++ [k]).length ≤ 400 := nodup_lt (nodup_snoc W.1 hk) (fun x hx => (List.mem_append.mp hx).elim (hD4 x) (fun z => by rw [List.mem_singleton.mp z]; exact hk4))
  have hlen2 : D.length + 1 ≤ 400 := by rw [List.length_append] at hlen; exact hlen
  have hhd : ∀ z, hd = some z → z ∈ D := fun z hz => by rw [W.2.2.1] at hz; exact List.mem_of_mem_head? hz
  have htl : ∀ z, tl = some z → z ∈ D := fun z hz => by rw [W.2.2.2.1] at hz; exact lst_in hz
  refine st_J1_putVal (ls := [some (.ref m), some (.int (nI (hsh k))), some (.ref a), some (.ref v), some (.int (nI 0)), some (.int (nI 1)), none, none, none, none, none, none, none]) F rfl (body := fun M X => ?_)
  -- the end
  have fin2 : ∀ (h : JIH) (a' n' th' : Nat) (nx' bf' af' f' : Nat → Option Nat) (tb' hd' tl' : Option Nat) (y6 y7 y8 y9 y10 y11 y12 : Option Value), LmR K t h m (D ++ [k]) (va_up ea k a') (va_up ka k a) (va_up ta k v) (nx') (bf') (af') (tb') (n') (f') es ks vs (sz + 1) (mc + nI 1) (th') lf (hd') (tl') → LmW (D ++ [k]) (va_up ea k a') nx' bf' af' tb' n' f' th' hd' tl' → Fr (fun x => x = t) hE h → n ≤ n' → hres h + 3 * n ≤ hres hE + 14 + 3 * n' → J M h 292 [some (.ref m), some (.int (nI (hsh k))), some (.ref a), some (.ref v), some (.int (nI 0)), some (.int (nI 1)), y6, y7, y8, y9, y10, y11, y12] [] := by
    intro h a' n' th' nx' bf' af' f' tb' hd' tl' y6 y7 y8 y9 y10 y11 y12 T W f1 hn r1
    refine J.aload0 X dJ1_putVal_292 ?_
    refine J.iload5 X dJ1_putVal_293 ?_
    refine J.callUv X dJ1_putVal_295 lk_J1_205_J2 ce_J2_afterNodeInsertion (lm_afterIns F T) (by decide) rfl (T.1.1) rfl (fun h' e _ => ?_)
    subst e
    refine J.aconst_null X dJ1_putVal_298 ?_
    refine J.areturnO X dJ1_putVal_299 (jRa.ofN ?_)
    exact ⟨rfl, a', n', th', nx', bf', af', f', tb', hd', tl', T, W, f1, hn, r1⟩
  have fin : ∀ (h : JIH) (a' n' th' tA : Nat) (nx' bf' af' f' : Nat → Option Nat) (hd' tl' : Option Nat) (y6 y7 y8 y9 y10 y11 y12 : Option Value), LmR K t h m (k :: D) (va_up ea k a') (va_up ka k a) (va_up ta k v) (nx') (bf') (af') (some tA) (n') (f') es ks vs sz mc (th') lf (hd') (tl') → LmW (D ++ [k]) (va_up ea k a') nx' bf' af' (some tA) n' f' th' hd' tl' → Fr (fun x => x = t) hE h → n ≤ n' → hres h + 3 * n ≤ hres hE + 14 + 3 * n' → hres h ≤ hres hE + 4096 → J M h 259 [some (.ref m), some (.int (nI (hsh k))), some (.ref a), some (.ref v), some (.int (nI 0)), some (.int (nI 1)), y6, y7, y8, y9, y10, y11, y12] [] := by
    intro h a' n' th' tA nx' bf' af' f' hd' tl' y6 y7 y8 y9 y10 y11 y12 T W f1 hn r1 r2
    replace T := T.subD (D' := D ++ [k]) (fun x hx => (List.mem_append.mp hx).elim (List.mem_cons_of_mem _) (fun z => by rw [List.mem_singleton.mp z]; exact List.mem_cons_self))
    have S := T.S
    have hp : 4 * th' = 3 * n' ∧ n' ≤ 1024 := by
      rcases W.2.2.2.2 with ⟨z, -⟩ | ⟨_, q, B, -, h4, h10, hn, hth, -⟩
      · cases z
      · exact ⟨hth, by have := pow_le h4 h10; omega⟩
    refine J.aload0 X dJ1_putVal_259 ?_
    refine J.dup X dJ1_putVal_260 ?_
    refine J.getf X dJ1_putVal_261 fl_J1_202_J2 (S.o) rfl ?_
    refine J.iconst (v := nI 1) X dJ1_putVal_264 (by decide) ?_
    refine J.iadd X dJ1_putVal_265 ?_
    refine J.lm_mc X dJ1_putVal_266 (pl_J1_202_J2 _) S rfl (fun h S => ?_)
    refine J.aload0 X dJ1_putVal_269 ?_
    refine J.dup X dJ1_putVal_270 ?_
    refine J.getf X dJ1_putVal_271 fl_J1_156_J2 (S.o) rfl ?_
    refine J.iconst (v := nI 1) X dJ1_putVal_274 (by decide) ?_
    refine J.iaddN X dJ1_putVal_275 ?_
    refine J.dup_x1 X dJ1_putVal_276 ?_
    refine J.lm_sz (x := sz + 1) X dJ1_putVal_277 (pl_J1_156_J2 _) S rfl (fun h S => ?_)
    refine J.aload0 X dJ1_putVal_280 ?_
    refine J.getf X dJ1_putVal_281 fl_J1_88_J2 (S.o) rfl ?_
    refine J.icmp_leN (tgt := 292) X dJ1_putVal_284 (by decide) (by omega) (by omega) (fun c1 => ?_) (fun c1 => ?_)
    · skip
      exact fin2 _ a' n' th' nx' bf' af' f' _ hd' tl' _ _ _ _ _ _ _ S.1 W (f1.tr S.2.1) hn (by rw [S.2.2]; omega)
    · skip
      have hn5 := W.n9 (by omega)
      refine J.aload0 X dJ1_putVal_287 ?_
      refine J.callVa X dJ1_putVal_288 lk_J1_117_J2 ce_J1_resize (lm_resize F S.1 W hn5 (by rw [S.2.2]; omega)) (by decide) rfl (S.o) rfl (fun r h' e _ => ?_)
      obtain ⟨tA2, nx2, f2, -, S2, W2⟩ := e
      refine J.pop X dJ1_putVal_291 ?_
      exact fin2 _ a' _ _ nx2 bf' af' f2 _ hd' tl' _ _ _ _ _ _ _ S2.1 W2 ((f1.tr S.2.1).tr S2.2.1) (by omega) (by rw [S2.2.2, S.2.2]; have := hp; have : 16 ≤ n' := by { rcases W.2.2.2.2 with ⟨z, -⟩ | ⟨_, q, B, -, h4, h10, hn, hth, -⟩; { cases z }; { have := pow_le h4 h10; omega } }; omega)
  -- with a table
  have mid : ∀ (h : JIH) (nx f : Nat → Option Nat) (tA n' th' : Nat), LmR K t h m D ea ka ta nx bf af (some tA) (n') f es ks vs sz mc (th') lf hd tl → LmW D ea nx bf af (some tA) n' f th' hd tl → Fr (fun x => x = t) hE h → n ≤ n' → hres h + 3 * n ≤ hres hE + 3 * n' → hres h ≤ hres hE + 24 → J M h 29 [some (.ref m), some (.int (nI (hsh k))), some (.ref a), some (.ref v), some (.int (nI 0)), some (.int (nI 1)), some (.ref tA), none, some (.int (nI n')), none, none, none, none] [] := by
    intro h nx f tA n' th' T W f1 hn r1 r2
    rcases id W.2.2.2.2 with ⟨z, -⟩ | ⟨tA', q, B, htb, h4, h10, hn', hth, hB⟩
    · cases z
    cases htb
    have hp := pow_le h4 h10
    rw [← hn'] at hp
    have hjn : hsh k % n' < n' := Nat.mod_lt _ (by omega)
    have hnxD : ∀ x ∈ D, nx x ≠ some k ∧ bf x ≠ some k ∧ af x ≠ some k := by
      intro x hx
      refine ⟨fun z => ?_, fun z => hk ((W.cl hx).1 k z).1, fun z => hk ((W.cl hx).2 k z).1⟩
      have hxn : hsh x % n' < n' := Nat.mod_lt _ (by omega)
      obtain ⟨-, hch, -, hmem⟩ := hB _ hxn
      obtain ⟨l1, l2, e⟩ := mem_split ((hmem x).mpr ⟨hx, rfl⟩)
      rw [e] at hch
      rw [Chn.nx hch] at z
      exact hk ((hmem k).mp (by rw [e]; exact List.mem_append_right _ (List.mem_cons_of_mem _ (List.mem_of_mem_head? z)))).1
    refine J.aload6 X dJ1_putVal_29 ?_
    refine J.iload8 X dJ1_putVal_31 ?_
    refine J.iconst (v := nI 1) X dJ1_putVal_33 (by decide) ?_
    refine J.isubN X dJ1_putVal_34 (by omega) ?_
    refine J.iload1 X dJ1_putVal_35 ?_
    refine J.iand X dJ1_putVal_36 ?_
    refine J.topi (y := nI (hsh k % n')) (by rw [hn']; exact nI_mod' _ _) ?_
    refine J.dup X dJ1_putVal_37 ?_
    refine J.istore9 X dJ1_putVal_38 ?_
    refine J.aald X dJ1_putVal_40 ((T.2.2.1 tA rfl).1) rfl (rfl) (hjn) ?_
    refine J.dup X dJ1_putVal_41 ?_
    refine J.astore7 X dJ1_putVal_42 ?_
    obtain ⟨hf, hch, hbn, hmem⟩ := hB _ hjn
    rw [hf]
    cases hL : B (hsh k % n') with
    | nil =>
      refine J.ifnonnullN (a := 0) (tgt := 63) X dJ1_putVal_44 (by decide) ?_
      refine J.aload6 X dJ1_putVal_47 ?_
      refine J.iload9 X dJ1_putVal_49 ?_
      refine J.aload0 X dJ1_putVal_51 ?_
      refine J.iload1 X dJ1_putVal_52 ?_
      refine J.aload2 X dJ1_putVal_53 ?_
      refine J.aload3 X dJ1_putVal_54 ?_
      refine J.aconst_null X dJ1_putVal_55 ?_
      refine J.callUa X dJ1_putVal_56 lk_J1_186_J2 ce_J2_newNode (lm_newNode F T hk hk4 hhd htl hnxD (by omega)) (by decide) rfl (T.1.1) rfl (fun r h' e _ => ?_)
      obtain ⟨rfl, S⟩ := e
      refine J.lm_fX (x := some k) X dJ1_putVal_59 S rfl (fun z hz => by cases hz; exact List.mem_cons_self) (by show Value.ref (va_up ea k (hnew h) k) = _; rw [va_up_self]; rfl) rfl hjn (by omega) (fun h2 S2 _ => ?_)
      refine J.goto (tgt := 259) X dJ1_putVal_60 (by decide) ?_
      have W2 := W.add rfl h4 h10 hn' hth hB (a' := hnew h) hk rfl (Or.inl ⟨hL, rfl, rfl⟩)
      refine fin _ _ _ _ _ _ _ _ _ _ _ _ _ _ _ _ _ _ S2.1 ?_ (f1.tr S2.2.1) hn (by rw [S2.2.2]; omega) (by rw [S2.2.2]; omega)
      show LmW (D ++ [k]) _ _ _ _ _ _ (va_up f (hsh k % n') (some (va_up ea k (hnew h) k))) _ _ _
      rw [va_up_self]
      exact W2
    | cons k1 r =>
      have hk1B : k1 ∈ B (hsh k % n') := by rw [hL]; exact List.mem_cons_self
      have hk1 := ((hmem k1).mp hk1B).1
      have b1 := hsh_lt (hD4 k1 hk1)
      have loop : ∀ (r p : List Nat) (x : Nat) (y10 : Option Value), B (hsh k % n') = p ++ x :: r → J M h 134 [some (.ref m), some (.int (nI (hsh k))), some (.ref a), some (.ref v), some (.int (nI 0)), some (.int (nI 1)), some (.ref tA), some (.ref (ea x)), some (.int (nI n')), some (.int (nI (hsh k % n'))), y10, none, some (.int (nI p.length))] [] := by
        intro r
        induction r with
        | nil =>
          intro p x y10 hBj
          have hxB : x ∈ B (hsh k % n') := by rw [hBj]; exact List.mem_append_right _ List.mem_cons_self
          have hx := ((hmem x).mp hxB).1
          have hxk : x ≠ k := fun e => hk (e ▸ hx)
          have hlx : lst none (B (hsh k % n')) = some x := by rw [hBj, lst_app]; rfl
          rw [hBj] at hch
          have hlp : p.length < 500 := by
            have := nodup_lt (N := 400) hbn (fun y hy => hD4 y ((hmem y).mp hy).1)
            rw [hBj, List.length_append] at this
            omega
          refine J.aload7 X dJ1_putVal_134 ?_
          refine J.getf X dJ1_putVal_136 fl_J1_177_J34 ((T.2.1 x hx).2.1) rfl ?_
          refine J.dup X dJ1_putVal_139 ?_
          refine J.astore10 X dJ1_putVal_140 ?_
          rw [show nx x = none from Chn.nx hch]
          refine J.ifnonnullN (a := 0) (tgt := 175) X dJ1_putVal_142 (by decide) ?_
          refine J.aload7 X dJ1_putVal_145 ?_
          refine J.aload0 X dJ1_putVal_147 ?_
          refine J.iload1 X dJ1_putVal_148 ?_
          refine J.aload2 X dJ1_putVal_149 ?_
          refine J.aload3 X dJ1_putVal_150 ?_
          refine J.aconst_null X dJ1_putVal_151 ?_
          refine J.callUa X dJ1_putVal_152 lk_J1_186_J2 ce_J2_newNode (lm_newNode F T hk hk4 hhd htl hnxD (by omega)) (by decide) rfl (T.1.1) rfl (fun r h' e _ => ?_)
          obtain ⟨rfl, S⟩ := e
          rw [show ea x = va_up ea k (hnew h) x from (va_up_ne _ _ hxk).symm]
          refine J.lm_nx (k := x) (x := some k) X dJ1_putVal_155 (pl_J1_177_J34 _) S (List.mem_cons_of_mem _ hx) (by show Value.ref (va_up ea k (hnew h) k) = _; rw [va_up_self]; rfl) (fun h2 S2 => ?_)
          have W2 := W.add rfl h4 h10 hn' hth hB (a' := hnew h) hk rfl (Or.inr ⟨x, hlx, rfl, rfl⟩)
          refine J.iload12 X dJ1_putVal_158 ?_
          refine J.bipush (v := nI 7) X dJ1_putVal_160 (by decide) ?_
          refine J.icmp_ltN (tgt := 222) X dJ1_putVal_162 (by decide) (by omega) (by omega) (fun c1 => ?_) (fun c1 => ?_)
          · skip
            refine J.aload10 X dJ1_putVal_222 ?_
            refine J.ifnullN (a := 0) (tgt := 259) X dJ1_putVal_224 (by decide) ?_
            exact fin _ _ _ _ _ _ _ _ _ _ _ _ _ _ _ _ _ _ S2.1 W2 (f1.tr S2.2.1) hn (by rw [S2.2.2]; omega) (by rw [S2.2.2]; omega)
          · skip
            have hn64 : n' < 64 := by
              rcases Nat.lt_or_ge n' 64 with c | c
              · exact c
              · have := bin_le hbn (fun y hy => ⟨hD4 y ((hmem y).mp hy).1, ((hmem y).mp hy).2⟩) c
                rw [hBj, List.length_append, List.length_singleton] at this
                omega
            refine J.aload0 X dJ1_putVal_165 ?_
            refine J.aload6 X dJ1_putVal_166 ?_
            refine J.iload1 X dJ1_putVal_168 ?_
            have W3 : LmW (D ++ [k]) _ _ _ _ _ _ _ _ _ _ := W2
            have T3 := S2.1.subD (D' := D ++ [k]) (fun x hx => (List.mem_append.mp hx).elim (List.mem_cons_of_mem _) (fun z => by rw [List.mem_singleton.mp z]; exact List.mem_cons_self))
            refine J.callVv X dJ1_putVal_169 lk_J1_194_J2 ce_J1_treeifyBin (lm_treeify F T3 W3 hn64 (by rw [S2.2.2]; omega) _) (by decide) rfl (S2.o) rfl (fun h3 e _ => ?_)
            obtain ⟨tA3, nx3, f3, S3, W4⟩ := e
            refine J.goto (tgt := 222) X dJ1_putVal_172 (by decide) ?_
            refine J.aload10 X dJ1_putVal_222 ?_
            refine J.ifnullN (a := 0) (tgt := 259) X dJ1_putVal_224 (by decide) ?_
            refine fin _ _ _ _ tA3 nx3 _ _ f3 _ _ _ _ _ _ _ _ _ (S3.1.subD (fun x hx => (List.mem_cons.mp hx).elim (fun z => by rw [z]; exact List.mem_append_right _ List.mem_cons_self) (List.mem_append_left _))) W4 ((f1.tr S2.2.1).tr S3.2.1) (by omega) (by rw [S3.2.2, S2.2.2]; omega) (by rw [S3.2.2, S2.2.2]; omega)
        | cons x2 r ih =>
          intro p x y10 hBj
          have hxB : x ∈ B (hsh k % n') := by rw [hBj]; exact List.mem_append_right _ List.mem_cons_self
          have hx2B : x2 ∈ B (hsh k % n') := by rw [hBj]; exact List.mem_append_right _ (List.mem_cons_of_mem _ List.mem_cons_self)
          have hx := ((hmem x).mp hxB).1
          have hx2 := ((hmem x2).mp hx2B).1
          have b2 := hsh_lt (hD4 x2 hx2)
          rw [hBj] at hch
          refine J.aload7 X dJ1_putVal_134 ?_
          refine J.getf X dJ1_putVal_136 fl_J1_177_J34 ((T.2.1 x hx).2.1) rfl ?_
          refine J.dup X dJ1_putVal_139 ?_
          refine J.astore10 X dJ1_putVal_140 ?_
          rw [show nx x = some x2 from Chn.nx hch]
          refine J.ifnonnullR (tgt := 175) X dJ1_putVal_142 (by decide) ?_
          refine J.aload10 X dJ1_putVal_175 ?_
          refine J.getf X dJ1_putVal_177 fl_J1_168_J34 ((T.2.1 x2 hx2).2.1) rfl ?_
          refine J.iload1 X dJ1_putVal_180 ?_
          refine J.icmp_neN (tgt := 212) X dJ1_putVal_181 (by decide) (by omega) (by omega) (fun _ => ?_) (fun q9 => absurd q9 (fun e => hk (hsh_inj e ▸ hx2)))
          refine J.aload10 X dJ1_putVal_212 ?_
          refine J.astore7 X dJ1_putVal_214 ?_
          refine J.iinc12N (d := 1) X dJ1_putVal_216 (by decide) ?_
          refine J.goto (tgt := 134) X dJ1_putVal_219 (by decide) ?_
          have := ih (p ++ [x]) x2 (some (.ref (ea x2))) (by rw [hBj]; simp)
          rw [List.length_append] at this
          exact this
      refine J.ifnonnullR (tgt := 63) X dJ1_putVal_44 (by decide) ?_
      refine J.aload7 X dJ1_putVal_63 ?_
      refine J.getf X dJ1_putVal_65 fl_J1_168_J34 ((T.2.1 k1 hk1).2.1) rfl ?_
      refine J.iload1 X dJ1_putVal_68 ?_
      refine J.icmp_neN (tgt := 104) X dJ1_putVal_69 (by decide) (by omega) (by omega) (fun _ => ?_) (fun q9 => absurd q9 (fun e => hk (hsh_inj e ▸ hk1)))
      refine J.aload7 X dJ1_putVal_104 ?_
      refine J.instNo X dJ1_putVal_106 cl_J1_180 jcl_13 (nc_tree F) ((T.2.1 k1 hk1).2.1) ?_
      refine J.topi (y := nI 0) rfl ?_
      refine J.if_eqN (tgt := 131) X dJ1_putVal_109 (by decide) (by omega) (fun _ => ?_) (fun q9 => absurd q9 (by omega))
      refine J.iconst (v := nI 0) X dJ1_putVal_131 (by decide) ?_
      refine J.istore12 X dJ1_putVal_132 ?_
      exact loop r [] k1 _ hL
  refine J.aload0 X dJ1_putVal_0 ?_
  refine J.getf X dJ1_putVal_1 fl_J1_105_J2 (T.1.1) rfl ?_
  refine J.dup X dJ1_putVal_4 ?_
  refine J.astore6 X dJ1_putVal_5 ?_
  rcases id W.2.2.2.2 with ⟨htb, hn, hth, hQ⟩ | ⟨tA, q, B, htb, h4, h10, hn, hth, hB⟩
  · subst htb; subst hn; subst hth
    refine J.ifnullN (a := 0) (tgt := 19) X dJ1_putVal_7 (by decide) ?_
    refine J.aload0 X dJ1_putVal_19 ?_
    refine J.callVa X dJ1_putVal_20 lk_J1_117_J2 ce_J1_resize (lm_resize0 F T (by omega)) (by decide) rfl (T.1.1) rfl (fun r h' e _ => ?_)
    obtain ⟨tA, rfl, S⟩ := e
    refine J.dup X dJ1_putVal_23 ?_
    refine J.astore6 X dJ1_putVal_24 ?_
    refine J.alen (t := 6) (v := nI 16) X dJ1_putVal_26 ((S.tt rfl)) rfl (rfl) ?_
    refine J.istore8 X dJ1_putVal_27 ?_
    refine mid _ _ _ tA 16 12 S.1 ?_ S.2.1 (by omega) (by rw [S.2.2]; omega) (by rw [S.2.2]; omega)
    refine ⟨W.1, W.2.1, W.2.2.1, W.2.2.2.1, Or.inr ⟨tA, 4, fun _ => [], rfl, by omega, by omega, rfl, rfl, fun j _ => ⟨rfl, rfl, List.nodup_nil, fun k => ?_⟩⟩⟩
    rw [hQ]
    simp
  · subst htb
    have hp := pow_le h4 h10
    rw [← hn] at hp
    refine J.ifnullR (tgt := 19) X dJ1_putVal_7 (by decide) ?_
    refine J.aload6 X dJ1_putVal_10 ?_
    refine J.alen (t := 6) (v := nI n) X dJ1_putVal_12 ((T.2.2.1 tA rfl).1) rfl (rfl) ?_
    refine J.dup X dJ1_putVal_13 ?_
    refine J.istore8 X dJ1_putVal_14 ?_
    refine J.if_neN (tgt := 29) X dJ1_putVal_16 (by decide) (by omega) (fun _ => ?_) (fun q9 => absurd q9 (by omega))
    exact mid hE nx f tA n th T W (Fr.rf _ _) (Nat.le_refl _) (by omega) (by omega)
