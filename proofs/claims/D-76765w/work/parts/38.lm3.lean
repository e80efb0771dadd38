/-! LinkedHashMap: what is found, what goes -/
section
variable {K : JK} {t c : Nat} {h0 h h2 : JIH} {m : Nat} {D : List Nat} {ea : Nat → Nat} {ka : Nat → Nat} {ta : Nat → Nat} {nx : Nat → Option Nat} {bf : Nat → Option Nat} {af : Nat → Option Nat} {tb : Option Nat} {n : Nat} {f : Nat → Option Nat} {es : Option Nat} {ks : Option Nat} {vs : Option Nat} {sz : Nat} {mc : Int32} {th : Nat} {lf : Value} {hd : Option Nat} {tl : Option Nat}
theorem LmR.subD {D' : List Nat} (S : LmR K t h m D ea ka ta nx bf af tb n f es ks vs sz mc th lf hd tl) (g : ∀ x ∈ D', x ∈ D) : LmR K t h m (D') ea ka ta nx bf af tb n f es ks vs sz mc th lf hd tl := ⟨S.1, fun k hk => S.2.1 k (g k hk), S.2.2⟩
theorem LmS.subD {D' : List Nat} (S : LmS K t c h0 h m D ea ka ta nx bf af tb n f es ks vs sz mc th lf hd tl) (g : ∀ x ∈ D', x ∈ D) : LmS K t c h0 h m (D') ea ka ta nx bf af tb n f es ks vs sz mc th lf hd tl := ⟨S.1.subD g, S.2⟩
end
/-- a key goes out of a map -/
theorem LmW.rem {Q : List Nat} {ea : Nat → Nat} {nx bf af nx' bf' af' : Nat → Option Nat} {tb : Option Nat} {n th : Nat} {f f' : Nat → Option Nat} {hd tl : Option Nat} (W : LmW Q ea nx bf af tb n f th hd tl) {a q : Nat} {B : Nat → List Nat} (htb : tb = some a) (hq : 4 ≤ q) (hq' : q ≤ 10) (hn : n = 2 ^ q) (hth : 4 * th = 3 * n) (hB : Bn Q ea nx n f B) {k j : Nat} {l1 l2 : List Nat} (hk : k ∈ Q) (hj : hsh k % n = j) (hBj : B j = l1 ++ k :: l2)
    (hb : ∀ x, x ≠ k → bf' x = if af k = some x then bf k else bf x) (ha : ∀ x, x ≠ k → af' x = if bf k = some x then af k else af x)
    (hc : (l1 = [] ∧ nx' = nx ∧ f' = va_up f j ((nx k).map ea)) ∨ (∃ z, lst none l1 = some z ∧ nx' = va_up nx z (nx k) ∧ f' = f)) :
    LmW (Q.erase k) ea nx' bf' af' tb n f' th (oel (bf k) (af k) (fun _ => hd)) (oel (af k) (bf k) (fun _ => tl)) := by
  obtain ⟨hnd, hdl, rfl, rfl, -⟩ := W
  obtain ⟨d1, d2, rfl⟩ := mem_split hk
  have he := erase_split hnd
  have hme := fun x => mem_erase_iff hnd (k := k) (x := x)
  have hjn : j < n := by rw [← hj]; exact Nat.mod_lt _ (by have := pow_le hq hq'; omega)
  obtain ⟨hf, hch, hbn, hmem⟩ := hB j hjn
  refine ⟨?_, ?_, ?_, ?_, Or.inr ⟨a, q, va_up B j (l1 ++ l2), htb, hq, hq', hn, hth, fun i hi => ?_⟩⟩
  · exact hnd.erase k
  · rw [he]; exact hdl.rem hb ha hnd (fun b z => by cases z)
  · rw [he]; exact hdl.head
  · rw [he]; exact hdl.last
  · by_cases e : i = j
    · subst e
      rw [va_up_self]
      have hne : (l1 ++ k :: l2).Nodup := hBj ▸ hbn
      have hme2 := fun x => mem_erase_iff hne (k := k) (x := x)
      rw [erase_split hne] at hme2
      have hlast : ∀ x, x ∈ l1 ++ l2 ↔ (x ∈ (d1 ++ k :: d2).erase k ∧ hsh x % n = i) := by
        intro x
        rw [hme2, hme, ← hBj, hmem]
        exact ⟨fun z => ⟨⟨z.1.1, z.2⟩, z.1.2⟩, fun z => ⟨⟨z.1.1, z.2⟩, z.1.2⟩⟩
      have hnd2 : (l1 ++ l2).Nodup := by rw [← erase_split hne]; exact hne.erase k
      rcases hc with ⟨rfl, rfl, rfl⟩ | ⟨z, hz, rfl, rfl⟩
      · rw [hBj] at hch
        have h1 : Chn nx' (nx' k) l2 := hch.2
        refine ⟨?_, ?_, hnd2, hlast⟩
        · rw [va_up_self, h1.hd]; rfl
        · have h2 := h1.hd
          rw [h2] at h1
          exact h1
      · have hl1 : ∃ b l, l1 = b :: l := by
          cases l1 with
          | nil => cases hz
          | cons b l => exact ⟨b, l, rfl⟩
        obtain ⟨b, l, rfl⟩ := hl1
        rw [hBj] at hch hf
        refine ⟨hf, ?_, hnd2, hlast⟩
        exact Chn.rem (nx := nx) (va_up_self _ _ _) (fun x hx => va_up_ne _ _ hx) hch hne hz
    · rw [va_up_ne _ _ e]
      obtain ⟨hf2, hch2, hbn2, hmem2⟩ := hB i hi
      have hxk : ∀ x ∈ B i, x ≠ k := fun x hx z => e (by rw [← ((hmem2 x).mp hx).2, z, hj])
      have hm3 : ∀ x, x ∈ B i ↔ (x ∈ (d1 ++ k :: d2).erase k ∧ hsh x % n = i) := by
        intro x
        rw [hme, hmem2]
        exact ⟨fun z => ⟨⟨z.1, hxk x ((hmem2 x).mpr z)⟩, z.2⟩, fun z => ⟨z.1.1, z.2⟩⟩
      rcases hc with ⟨rfl, rfl, rfl⟩ | ⟨z, hz, rfl, rfl⟩
      · exact ⟨by rw [va_up_ne _ _ e]; exact hf2, hch2, hbn2, hm3⟩
      · refine ⟨hf2, hch2.congr fun x hx => va_up_ne _ _ (fun q9 => ?_), hbn2, hm3⟩
        subst q9
        have : x ∈ B j := by rw [hBj]; exact List.mem_append_left _ (lst_in hz)
        exact e (by rw [← ((hmem2 x).mp hx).2, ((hmem x).mp this).2])
theorem LmW.cl {Q : List Nat} {ea : Nat → Nat} {nx bf af : Nat → Option Nat} {tb : Option Nat} {n th : Nat} {f : Nat → Option Nat} {hd tl : Option Nat} (W : LmW Q ea nx bf af tb n f th hd tl) {k : Nat} (hk : k ∈ Q) : (∀ z, bf k = some z → z ∈ Q ∧ z ≠ k) ∧ (∀ z, af k = some z → z ∈ Q ∧ z ≠ k) := by
  obtain ⟨hnd, hdl, -⟩ := W
  obtain ⟨d1, d2, rfl⟩ := mem_split hk
  have hnd' := List.nodup_append.mp hnd
  refine ⟨fun z hz => ?_, fun z hz => ?_⟩
  · rw [Dl.bf hdl] at hz
    have h1 := lst_in hz
    exact ⟨List.mem_append_left _ h1, fun e => hnd'.2.2 z h1 k List.mem_cons_self e⟩
  · rw [Dl.af hdl] at hz
    have h1 := List.mem_of_mem_head? hz
    exact ⟨List.mem_append_right _ (List.mem_cons_of_mem _ h1), fun e => (List.nodup_cons.mp hnd'.2.1).1 (e ▸ h1)⟩
theorem lm_getNode {K : JK} {l : Launch} {hE : JIH} {t m : Nat} {D : List Nat} {ea : Nat → Nat} {ka : Nat → Nat} {ta : Nat → Nat} {nx : Nat → Option Nat} {bf : Nat → Option Nat} {af : Nat → Option Nat} {tb : Option Nat} {n : Nat} {f : Nat → Option Nat} {es : Option Nat} {ks : Option Nat} {vs : Option Nat} {sz : Nat} {mc : Int32} {th : Nat} {lf : Value} {hd : Option Nat} {tl : Option Nat} (F : JF K) (T : LmR K t hE m D ea ka ta nx bf af tb n f es ks vs sz mc th lf hd tl) (W : LmW D ea nx bf af tb n f th hd tl) (hK : ∀ j ∈ D, IsKey hE (ka j) j) {a k : Nat} (g : IsKey hE a k) :
    Ct K l yJ1_getNode wJ1_getNode 2 [.ref m, .ref a] hE (jRa (fun r h' => r = (if k ∈ D then some (ea k) else none) ∧ hE = h')) jNo := by
  have b2 := hsh_lt g.1
  have hk4 := g.1
  refine st_J1_getNode (ls := [some (.ref m), some (.ref a), none, none, none, none, none, none]) F rfl (body := fun M X => ?_)
  refine J.aload0 X dJ1_getNode_0 ?_
  refine J.getf X dJ1_getNode_1 fl_J1_105_J2 (T.1.1) rfl ?_
  refine J.dup X dJ1_getNode_4 ?_
  refine J.astore2 X dJ1_getNode_5 ?_
  rcases W.2.2.2.2 with ⟨htb, -, -, hQ⟩ | ⟨tA, q, B, htb, h4, h10, hn, hth, hB⟩
  · subst htb
    refine J.ifnullN (a := 0) (tgt := 148) X dJ1_getNode_6 (by decide) ?_
    refine J.aconst_null X dJ1_getNode_148 ?_
    refine J.areturnO X dJ1_getNode_149 (jRa.ofN ?_)
    exact ⟨by rw [hQ, if_neg (by simp)], rfl⟩
  · subst htb
    have hp := pow_le h4 h10
    rw [← hn] at hp
    refine J.ifnullR (tgt := 148) X dJ1_getNode_6 (by decide) ?_
    refine J.aload2 X dJ1_getNode_9 ?_
    refine J.alen (t := 6) (v := nI n) X dJ1_getNode_10 ((T.2.2.1 tA rfl).1) rfl (rfl) ?_
    refine J.dup X dJ1_getNode_11 ?_
    refine J.istore5 X dJ1_getNode_12 ?_
    refine J.if_leN (tgt := 148) X dJ1_getNode_14 (by decide) (by omega) (fun q9 => absurd q9 (by omega)) (fun _ => ?_)
    refine J.aload2 X dJ1_getNode_17 ?_
    refine J.iload5 X dJ1_getNode_18 ?_
    refine J.iconst (v := nI 1) X dJ1_getNode_20 (by decide) ?_
    refine J.isubN X dJ1_getNode_21 (by omega) ?_
    refine J.aload1 X dJ1_getNode_22 ?_
    refine J.callSi X dJ1_getNode_23 lk_J1_149 ce_J1_hash (hm_hash F g) (by decide) rfl (fun r h' e _ => ?_)
    obtain ⟨rfl, rfl⟩ := e
    refine J.dup X dJ1_getNode_26 ?_
    refine J.istore6 X dJ1_getNode_27 ?_
    refine J.iand X dJ1_getNode_29 ?_
    have hjn : hsh k % n < n := Nat.mod_lt _ (by omega)
    refine J.aald X dJ1_getNode_30 ((T.2.2.1 tA rfl).1) rfl (by rw [hn]; exact nI_mod' _ _) (hjn) ?_
    refine J.dup X dJ1_getNode_31 ?_
    refine J.astore3 X dJ1_getNode_32 ?_
    obtain ⟨hf, hch, -, hmem⟩ := hB _ hjn
    rw [hf]
    have hm2 : k ∈ D → k ∈ B (hsh k % n) := fun z => (hmem k).mpr ⟨z, rfl⟩
    have hm3 : ∀ x ∈ B (hsh k % n), x ∈ D := fun x hx => ((hmem x).mp hx).1
    generalize B (hsh k % n) = L at hch hm2 hm3
    cases L with
    | nil =>
      refine J.ifnullN (a := 0) (tgt := 148) X dJ1_getNode_33 (by decide) ?_
      refine J.aconst_null X dJ1_getNode_148 ?_
      refine J.areturnO X dJ1_getNode_149 (jRa.ofN ?_)
      exact ⟨by rw [if_neg (fun z => by cases hm2 z)], rfl⟩
    | cons k1 r =>
      have hk1 := hm3 k1 List.mem_cons_self
      have b1 := hsh_lt (T.2.1 k1 hk1).1
      have chk : ∀ (x : Nat) (y : Option Value), x ∈ D → (∀ y, x ≠ k → J M hE 137 [some (.ref m), some (.ref a), some (.ref tA), some (.ref (ea k1)), some (.ref (ea x)), some (.int (nI n)), some (.int (nI (hsh k))), y] []) → J M hE 99 [some (.ref m), some (.ref a), some (.ref tA), some (.ref (ea k1)), some (.ref (ea x)), some (.int (nI n)), some (.int (nI (hsh k))), y] [] := by
        intro x y hx rest
        have b3 := hsh_lt (T.2.1 x hx).1
        have hx4 := (T.2.1 x hx).1
        refine J.aload4 X dJ1_getNode_99 ?_
        refine J.getf X dJ1_getNode_101 fl_J1_168_J34 ((T.2.1 x hx).2.1) rfl ?_
        refine J.iload6 X dJ1_getNode_104 ?_
        refine J.icmp_neN (tgt := 137) X dJ1_getNode_106 (by decide) (by omega) (by omega) (fun c1 => ?_) (fun c1 => ?_)
        · skip
          exact rest _ (fun z => c1 (by rw [z]))
        · skip
          have hxk : k = x := (hsh_inj c1).symm
          subst hxk
          refine J.aload4 X dJ1_getNode_109 ?_
          refine J.getf X dJ1_getNode_111 fl_J1_170_J34 ((T.2.1 k hx).2.1) rfl ?_
          refine J.dup X dJ1_getNode_114 ?_
          refine J.astore7 X dJ1_getNode_115 ?_
          refine J.aload1 X dJ1_getNode_117 ?_
          refine J.acmp_eq (rx := some _) (ry := some _) (tgt := 134) X dJ1_getNode_118 (by decide) (fun c2 => ?_) (fun c2 => ?_)
          · skip
            refine J.aload4 X dJ1_getNode_134 ?_
            refine J.areturnO X dJ1_getNode_136 (jRa.ofR ?_)
            exact ⟨by rw [if_pos hx], rfl⟩
          · skip
            refine J.aload1 X dJ1_getNode_121 ?_
            refine J.ifnullR (tgt := 137) X dJ1_getNode_122 (by decide) ?_
            refine J.aload1 X dJ1_getNode_125 ?_
            refine J.aload7 X dJ1_getNode_126 ?_
            refine J.callUi X dJ1_getNode_128 lk_J1_173_X8 ce_X8_equals (ky_equals F g.2.1 (hK k hx).2.1 (by omega) (by omega) (by omega) (by omega)) (by decide) rfl (g.2.1) rfl (fun r h' e _ => ?_)
            obtain ⟨rfl, rfl⟩ := e
            refine J.if_eqB (tgt := 137) X dJ1_getNode_131 (by decide) (fun c3 => ?_) (fun c3 => ?_)
            · skip
              exact absurd ⟨rfl, rfl⟩ c3
            · skip
              refine J.aload4 X dJ1_getNode_134 ?_
              refine J.areturnO X dJ1_getNode_136 (jRa.ofR ?_)
              exact ⟨by rw [if_pos hx], rfl⟩
      have loop : ∀ (r : List Nat) (x : Nat) (y : Option Value), Chn nx (nx x) r → (∀ z ∈ x :: r, z ∈ D) → (k ∈ D → k ∈ x :: r) → J M hE 99 [some (.ref m), some (.ref a), some (.ref tA), some (.ref (ea k1)), some (.ref (ea x)), some (.int (nI n)), some (.int (nI (hsh k))), y] [] := by
        intro r
        induction r with
        | nil =>
          intro x y hc hD hk9
          have hx := hD x List.mem_cons_self
          refine chk x y hx (fun y hne => ?_)
          refine J.aload4 X dJ1_getNode_137 ?_
          refine J.getf X dJ1_getNode_139 fl_J1_177_J34 ((T.2.1 x hx).2.1) rfl ?_
          refine J.dup X dJ1_getNode_142 ?_
          refine J.astore4 X dJ1_getNode_143 ?_
          rw [show nx x = none from hc]
          refine J.ifnonnullN (a := 0) (tgt := 99) X dJ1_getNode_145 (by decide) ?_
          refine J.aconst_null X dJ1_getNode_148 ?_
          refine J.areturnO X dJ1_getNode_149 (jRa.ofN ?_)
          exact ⟨by rw [if_neg (fun z => hne (List.mem_singleton.mp (hk9 z)).symm)], rfl⟩
        | cons z r ih =>
          intro x y hc hD hk9
          have hx := hD x List.mem_cons_self
          refine chk x y hx (fun y hne => ?_)
          refine J.aload4 X dJ1_getNode_137 ?_
          refine J.getf X dJ1_getNode_139 fl_J1_177_J34 ((T.2.1 x hx).2.1) rfl ?_
          refine J.dup X dJ1_getNode_142 ?_
          refine J.astore4 X dJ1_getNode_143 ?_
          rw [show nx x = some z from hc.1]
          refine J.ifnonnullR (tgt := 99) X dJ1_getNode_145 (by decide) ?_
          exact ih z y hc.2 (fun w hw => hD w (List.mem_cons_of_mem _ hw)) (fun q9 => (List.mem_cons.mp (hk9 q9)).resolve_left (fun w => hne w.symm))
      refine J.ifnullR (tgt := 148) X dJ1_getNode_33 (by decide) ?_
      have rest : ∀ y, k1 ≠ k → J M hE 71 [some (.ref m), some (.ref a), some (.ref tA), some (.ref (ea k1)), none, some (.int (nI n)), some (.int (nI (hsh k))), y] [] := by
        intro y hne
        refine J.aload3 X dJ1_getNode_71 ?_
        refine J.getf X dJ1_getNode_72 fl_J1_177_J34 ((T.2.1 k1 hk1).2.1) rfl ?_
        refine J.dup X dJ1_getNode_75 ?_
        refine J.astore4 X dJ1_getNode_76 ?_
        cases r with
        | nil =>
          rw [show nx k1 = none from hch.2]
          refine J.ifnullN (a := 0) (tgt := 148) X dJ1_getNode_78 (by decide) ?_
          refine J.aconst_null X dJ1_getNode_148 ?_
          refine J.areturnO X dJ1_getNode_149 (jRa.ofN ?_)
          exact ⟨by rw [if_neg (fun z => hne (List.mem_singleton.mp (hm2 z)).symm)], rfl⟩
        | cons z r =>
          rw [show nx k1 = some z from hch.2.1]
          refine J.ifnullR (tgt := 148) X dJ1_getNode_78 (by decide) ?_
          refine J.aload3 X dJ1_getNode_81 ?_
          refine J.instNo X dJ1_getNode_82 cl_J1_180 jcl_13 (nc_tree F) ((T.2.1 k1 hk1).2.1) ?_
          refine J.topi (y := nI 0) rfl ?_
          refine J.if_eqN (tgt := 99) X dJ1_getNode_85 (by decide) (by omega) (fun _ => ?_) (fun q9 => absurd q9 (by omega))
          exact loop r z _ hch.2.2 (fun w hw => hm3 w (List.mem_cons_of_mem _ hw)) (fun q9 => (List.mem_cons.mp (hm2 q9)).resolve_left (fun w => hne w.symm))
      refine J.aload3 X dJ1_getNode_36 ?_
      refine J.getf X dJ1_getNode_37 fl_J1_168_J34 ((T.2.1 k1 hk1).2.1) rfl ?_
      refine J.iload6 X dJ1_getNode_40 ?_
      refine J.icmp_neN (tgt := 71) X dJ1_getNode_42 (by decide) (by omega) (by omega) (fun c1 => ?_) (fun c1 => ?_)
      · skip
        exact rest _ (fun z => c1 (by rw [z]))
      · skip
        have hxk : k = k1 := (hsh_inj c1).symm
        subst hxk
        refine J.aload3 X dJ1_getNode_45 ?_
        refine J.getf X dJ1_getNode_46 fl_J1_170_J34 ((T.2.1 k hk1).2.1) rfl ?_
        refine J.dup X dJ1_getNode_49 ?_
        refine J.astore7 X dJ1_getNode_50 ?_
        refine J.aload1 X dJ1_getNode_52 ?_
        refine J.acmp_eq (rx := some _) (ry := some _) (tgt := 69) X dJ1_getNode_53 (by decide) (fun c2 => ?_) (fun c2 => ?_)
        · skip
          refine J.aload3 X dJ1_getNode_69 ?_
          refine J.areturnO X dJ1_getNode_70 (jRa.ofR ?_)
          exact ⟨by rw [if_pos hk1], rfl⟩
        · skip
          refine J.aload1 X dJ1_getNode_56 ?_
          refine J.ifnullR (tgt := 71) X dJ1_getNode_57 (by decide) ?_
          refine J.aload1 X dJ1_getNode_60 ?_
          refine J.aload7 X dJ1_getNode_61 ?_
          refine J.callUi X dJ1_getNode_63 lk_J1_173_X8 ce_X8_equals (ky_equals F g.2.1 (hK k hk1).2.1 (by omega) (by omega) (by omega) (by omega)) (by decide) rfl (g.2.1) rfl (fun r h' e _ => ?_)
          obtain ⟨rfl, rfl⟩ := e
          refine J.if_eqB (tgt := 71) X dJ1_getNode_66 (by decide) (fun c3 => ?_) (fun c3 => ?_)
          · skip
            exact absurd ⟨rfl, rfl⟩ c3
          · skip
            refine J.aload3 X dJ1_getNode_69 ?_
            refine J.areturnO X dJ1_getNode_70 (jRa.ofR ?_)
            exact ⟨by rw [if_pos hk1], rfl⟩
theorem lm_get {K : JK} {l : Launch} {hE : JIH} {t m : Nat} {D : List Nat} {ea : Nat → Nat} {ka : Nat → Nat} {ta : Nat → Nat} {nx : Nat → Option Nat} {bf : Nat → Option Nat} {af : Nat → Option Nat} {tb : Option Nat} {n : Nat} {f : Nat → Option Nat} {es : Option Nat} {ks : Option Nat} {vs : Option Nat} {sz : Nat} {mc : Int32} {th : Nat} {lf : Value} {hd : Option Nat} {tl : Option Nat} (F : JF K) (T : LmR K t hE m D ea ka ta nx bf af tb n f es ks vs sz mc th lf hd tl) (W : LmW D ea nx bf af tb n f th hd tl) (hK : ∀ j ∈ D, IsKey hE (ka j) j) {a k : Nat} (g : IsKey hE a k) :
    Ct K l yJ2_get wJ2_get 3 [.ref m, .ref a] hE (jRa (fun r h' => r = (if k ∈ D then some (ta k) else none) ∧ hE = h')) jNo := by
  refine st_J2_get (ls := [some (.ref m), some (.ref a), none]) F rfl (body := fun M X => ?_)
  refine J.aload0 X dJ2_get_0 ?_
  refine J.aload1 X dJ2_get_1 ?_
  refine J.callUa X dJ2_get_2 lk_J2_99_J2 ce_J1_getNode (lm_getNode F T W hK g) (by decide) rfl (T.1.1) rfl (fun r h' e _ => ?_)
  obtain ⟨rfl, rfl⟩ := e
  by_cases c : k ∈ D
  · rw [if_pos c]
    refine J.dup X dJ2_get_5 ?_
    refine J.astore2 X dJ2_get_6 ?_
    refine J.ifnonnullR (tgt := 12) X dJ2_get_7 (by decide) ?_
    refine J.aload0 X dJ2_get_12 ?_
    refine J.getf X dJ2_get_13 fl_J2_64_J2 (T.1.1) rfl ?_
    refine J.if_eqN (tgt := 24) X dJ2_get_16 (by decide) (by omega) (fun _ => ?_) (fun q9 => absurd q9 (by omega))
    refine J.aload2 X dJ2_get_24 ?_
    refine J.getf X dJ2_get_25 fl_J2_107_J34 ((T.2.1 k c).2.1) rfl ?_
    refine J.areturnO X dJ2_get_28 (jRa.ofR ?_)
    exact ⟨by rw [if_pos c], rfl⟩
  · rw [if_neg c]
    refine J.dup X dJ2_get_5 ?_
    refine J.astore2 X dJ2_get_6 ?_
    refine J.ifnonnullN (a := 0) (tgt := 12) X dJ2_get_7 (by decide) ?_
    refine J.aconst_null X dJ2_get_10 ?_
    refine J.areturnO X dJ2_get_11 (jRa.ofN ?_)
    exact ⟨by rw [if_neg c], rfl⟩
theorem lm_has {K : JK} {l : Launch} {hE : JIH} {t m : Nat} {D : List Nat} {ea : Nat → Nat} {ka : Nat → Nat} {ta : Nat → Nat} {nx : Nat → Option Nat} {bf : Nat → Option Nat} {af : Nat → Option Nat} {tb : Option Nat} {n : Nat} {f : Nat → Option Nat} {es : Option Nat} {ks : Option Nat} {vs : Option Nat} {sz : Nat} {mc : Int32} {th : Nat} {lf : Value} {hd : Option Nat} {tl : Option Nat} (F : JF K) (T : LmR K t hE m D ea ka ta nx bf af tb n f es ks vs sz mc th lf hd tl) (W : LmW D ea nx bf af tb n f th hd tl) (hK : ∀ j ∈ D, IsKey hE (ka j) j) {a k : Nat} (g : IsKey hE a k) :
    Ct K l yJ1_containsKey wJ1_containsKey 3 [.ref m, .ref a] hE (jRi (fun r h' => r = jB (k ∈ D) ∧ hE = h')) jNo := by
  refine st_J1_containsKey (ls := [some (.ref m), some (.ref a)]) F rfl (body := fun M X => ?_)
  refine J.aload0 X dJ1_containsKey_0 ?_
  refine J.aload1 X dJ1_containsKey_1 ?_
  refine J.callVa X dJ1_containsKey_2 lk_J1_158_J2 ce_J1_getNode (lm_getNode F T W hK g) (by decide) rfl (T.1.1) rfl (fun r h' e _ => ?_)
  obtain ⟨rfl, rfl⟩ := e
  by_cases c : k ∈ D
  · rw [if_pos c]
    refine J.ifnullR (tgt := 12) X dJ1_containsKey_5 (by decide) ?_
    refine J.iconst (v := nI 1) X dJ1_containsKey_8 (by decide) ?_
    refine J.goto (tgt := 13) X dJ1_containsKey_9 (by decide) ?_
    refine J.zreturn X dJ1_containsKey_13 (rfl) (jRi.of ?_)
    exact ⟨jB_1 c, rfl⟩
  · rw [if_neg c]
    refine J.ifnullN (a := 0) (tgt := 12) X dJ1_containsKey_5 (by decide) ?_
    refine J.iconst (v := nI 0) X dJ1_containsKey_12 (by decide) ?_
    refine J.zreturn X dJ1_containsKey_13 (rfl) (jRi.of ?_)
    exact ⟨jB_0 c, rfl⟩
theorem lm_size {K : JK} {l : Launch} {hE : JIH} {t m : Nat} {D : List Nat} {ea : Nat → Nat} {ka : Nat → Nat} {ta : Nat → Nat} {nx : Nat → Option Nat} {bf : Nat → Option Nat} {af : Nat → Option Nat} {tb : Option Nat} {n : Nat} {f : Nat → Option Nat} {es : Option Nat} {ks : Option Nat} {vs : Option Nat} {sz : Nat} {mc : Int32} {th : Nat} {lf : Value} {hd : Option Nat} {tl : Option Nat} (F : JF K) (T : LmR K t hE m D ea ka ta nx bf af tb n f es ks vs sz mc th lf hd tl) :
    Ct K l yJ1_size wJ1_size 0 [.ref m] hE (jRi (fun r h' => r = nI sz ∧ hE = h')) jNo := by
  refine st_J1_size (ls := [some (.ref m)]) F rfl (body := fun M X => ?_)
  refine J.aload0 X dJ1_size_0 ?_
  refine J.getf X dJ1_size_1 fl_J1_156_J2 (T.1.1) rfl ?_
  refine J.zreturn X dJ1_size_4 (rfl) (jRi.of ?_)
  exact ⟨rfl, rfl⟩
