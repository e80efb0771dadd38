/-! LinkedHashMap: a node goes -/
theorem lm_remNode {K : JK} {l : Launch} {hE : JIH} {t m : Nat} {D : List Nat} {ea : Nat → Nat} {ka : Nat → Nat} {ta : Nat → Nat} {nx : Nat → Option Nat} {bf : Nat → Option Nat} {af : Nat → Option Nat} {tb : Option Nat} {n : Nat} {f : Nat → Option Nat} {es : Option Nat} {ks : Option Nat} {vs : Option Nat} {sz : Nat} {mc : Int32} {th : Nat} {lf : Value} {hd : Option Nat} {tl : Option Nat} (F : JF K) (T : LmR K t hE m D ea ka ta nx bf af tb n f es ks vs sz mc th lf hd tl) (W : LmW D ea nx bf af tb n f th hd tl) (hK : ∀ j ∈ D, IsKey hE (ka j) j) (hsz : sz = D.length) {a k b : Nat} (g : IsKey hE a k) :
    Ct K l yJ1_removeNode wJ1_removeNode 3 [.ref m, .int (nI (hsh k)), .ref a, .null, .int (nI 0), .int (nI b)] hE (jRa (fun r h' => (k ∉ D ∧ r = none ∧ hE = h') ∨ (k ∈ D ∧ r = some (ea k) ∧ ∃ (nx' bf' af' f' : Nat → Option Nat) (hd' tl' : Option Nat), LmS K t 0 hE h' m D ea ka ta (nx') (bf') (af') tb n (f') es ks vs (sz - 1) (mc + nI 1) th lf (hd') (tl') ∧ LmW (D.erase k) ea nx' bf' af' tb n f' th hd' tl'))) jNo := by
  have b2 := hsh_lt g.1
  have hk4 := g.1
  refine st_J1_removeNode (ls := [some (.ref m), some (.int (nI (hsh k))), some (.ref a), some (.null), some (.int (nI 0)), some (.int (nI b)), none, none, none, none, none, none, none, none]) F rfl (body := fun M X => ?_)
  refine J.aload0 X dJ1_removeNode_0 ?_
  refine J.getf X dJ1_removeNode_1 fl_J1_105_J2 (T.1.1) rfl ?_
  refine J.dup X dJ1_removeNode_4 ?_
  refine J.astore6 X dJ1_removeNode_5 ?_
  rcases id W.2.2.2.2 with ⟨htb, -, -, hQ⟩ | ⟨tA, q, B, htb, h4, h10, hn, hth, hB⟩
  · subst htb
    refine J.ifnullN (a := 0) (tgt := 289) X dJ1_removeNode_7 (by decide) ?_
    refine J.aconst_null X dJ1_removeNode_289 ?_
    refine J.areturnO X dJ1_removeNode_290 (jRa.ofN ?_)
    exact Or.inl ⟨by rw [hQ]; simp, rfl, rfl⟩
  · subst htb
    have hp := pow_le h4 h10
    rw [← hn] at hp
    refine J.ifnullR (tgt := 289) X dJ1_removeNode_7 (by decide) ?_
    refine J.aload6 X dJ1_removeNode_10 ?_
    refine J.alen (t := 6) (v := nI n) X dJ1_removeNode_12 ((T.2.2.1 tA rfl).1) rfl (rfl) ?_
    refine J.dup X dJ1_removeNode_13 ?_
    refine J.istore8 X dJ1_removeNode_14 ?_
    refine J.if_leN (tgt := 289) X dJ1_removeNode_16 (by decide) (by omega) (fun q9 => absurd q9 (by omega)) (fun _ => ?_)
    refine J.aload6 X dJ1_removeNode_19 ?_
    refine J.iload8 X dJ1_removeNode_21 ?_
    refine J.iconst (v := nI 1) X dJ1_removeNode_23 (by decide) ?_
    refine J.isubN X dJ1_removeNode_24 (by omega) ?_
    refine J.iload1 X dJ1_removeNode_25 ?_
    refine J.iand X dJ1_removeNode_26 ?_
    have hjn : hsh k % n < n := Nat.mod_lt _ (by omega)
    refine J.topi (y := nI (hsh k % n)) (by rw [hn]; exact nI_mod' _ _) ?_
    refine J.dup X dJ1_removeNode_27 ?_
    refine J.istore9 X dJ1_removeNode_28 ?_
    refine J.aald X dJ1_removeNode_30 ((T.2.2.1 tA rfl).1) rfl (rfl) (hjn) ?_
    refine J.dup X dJ1_removeNode_31 ?_
    refine J.astore7 X dJ1_removeNode_32 ?_
    obtain ⟨hf, hch, hbn, hmem⟩ := hB _ hjn
    have hm2 : k ∈ D → k ∈ B (hsh k % n) := fun z => (hmem k).mpr ⟨z, rfl⟩
    have hm3 : ∀ x ∈ B (hsh k % n), x ∈ D := fun x hx => ((hmem x).mp hx).1
    rw [hf]
    -- the node is found
    have fin : ∀ (l1 l2 : List Nat) (z : Nat) (y11 y12 : Option Value), B (hsh k % n) = l1 ++ k :: l2 → ((l1 = [] ∧ z = k) ∨ lst none l1 = some z) → J M hE 171 [some (.ref m), some (.int (nI (hsh k))), some (.ref a), some .null, some (.int (nI 0)), some (.int (nI b)), some (.ref tA), some (.ref (ea z)), some (.int (nI n)), some (.int (nI (hsh k % n))), some (.ref (ea k)), y11, y12, none] [] := by
      intro l1 l2 z y11 y12 hBj hz
      have hk : k ∈ D := hm3 k (by rw [hBj]; exact List.mem_append_right _ List.mem_cons_self)
      have hnk : ∀ x, nx k = some x → x ∈ D := by
        intro x hx
        rw [hBj] at hch
        rw [Chn.nx hch] at hx
        exact hm3 x (by rw [hBj]; exact List.mem_append_right _ (List.mem_cons_of_mem _ (List.mem_of_mem_head? hx)))
      have hcl := W.cl hk
      have hs1 : 1 ≤ sz := by rw [hsz]; exact List.length_pos_of_mem hk
      have tail : ∀ (h : JIH) (nx' f' : Nat → Option Nat), ((l1 = [] ∧ nx' = nx ∧ f' = va_up f (hsh k % n) ((nx k).map ea)) ∨ (∃ z, lst none l1 = some z ∧ nx' = va_up nx z (nx k) ∧ f' = f)) → LmS K t 0 hE h m D ea ka ta (nx') bf af (some tA) n (f') es ks vs sz mc th lf hd tl → J M h 260 [some (.ref m), some (.int (nI (hsh k))), some (.ref a), some .null, some (.int (nI 0)), some (.int (nI b)), some (.ref tA), some (.ref (ea z)), some (.int (nI n)), some (.int (nI (hsh k % n))), some (.ref (ea k)), y11, y12, none] [] := by
        intro h nx' f' hcond S
        refine J.aload0 X dJ1_removeNode_260 ?_
        refine J.dup X dJ1_removeNode_261 ?_
        refine J.getf X dJ1_removeNode_262 fl_J1_202_J2 (S.o) rfl ?_
        refine J.iconst (v := nI 1) X dJ1_removeNode_265 (by decide) ?_
        refine J.iadd X dJ1_removeNode_266 ?_
        refine J.lm_mc X dJ1_removeNode_267 (pl_J1_202_J2 _) S rfl (fun h S => ?_)
        refine J.aload0 X dJ1_removeNode_270 ?_
        refine J.dup X dJ1_removeNode_271 ?_
        refine J.getf X dJ1_removeNode_272 fl_J1_156_J2 (S.o) rfl ?_
        refine J.iconst (v := nI 1) X dJ1_removeNode_275 (by decide) ?_
        refine J.isubN X dJ1_removeNode_276 (hs1) ?_
        refine J.lm_sz X dJ1_removeNode_277 (pl_J1_156_J2 _) S rfl (fun h S => ?_)
        refine J.aload0 X dJ1_removeNode_280 ?_
        refine J.aload10 X dJ1_removeNode_281 ?_
        refine J.callUv X dJ1_removeNode_283 lk_J1_236_J2 ce_J2_afterNodeRemoval (lm_afterRem F S.1 hk hcl.1 hcl.2) (by decide) rfl (S.o) rfl (fun h' e _ => ?_)
        obtain ⟨bf', af', h1, h2, S'⟩ := e
        refine J.aload10 X dJ1_removeNode_286 ?_
        refine J.areturnO X dJ1_removeNode_288 (jRa.ofR ?_)
        exact Or.inr ⟨hk, rfl, nx', bf', af', f', _, _, ⟨S'.1, S.2.1.tr S'.2.1, S'.2.2.trans S.2.2⟩, W.rem rfl h4 h10 hn hth hB hk rfl hBj h1 h2 hcond⟩
      have S := T.S
      refine J.aload10 X dJ1_removeNode_171 ?_
      refine J.ifnullR (tgt := 289) X dJ1_removeNode_173 (by decide) ?_
      refine J.iload4 X dJ1_removeNode_176 ?_
      refine J.if_eqN (tgt := 206) X dJ1_removeNode_178 (by decide) (by omega) (fun _ => ?_) (fun q9 => absurd q9 (by omega))
      refine J.aload10 X dJ1_removeNode_206 ?_
      refine J.instNo X dJ1_removeNode_208 cl_J1_180 jcl_13 (nc_tree F) ((S.e hk)) ?_
      refine J.topi (y := nI 0) rfl ?_
      refine J.if_eqN (tgt := 230) X dJ1_removeNode_211 (by decide) (by omega) (fun _ => ?_) (fun q9 => absurd q9 (by omega))
      refine J.aload10 X dJ1_removeNode_230 ?_
      refine J.aload7 X dJ1_removeNode_232 ?_
      rcases hz with ⟨h1, rfl⟩ | hz
      · skip
        refine J.acmp_ne (rx := some _) (ry := some _) (tgt := 250) X dJ1_removeNode_234 (by decide) (fun q9 => absurd q9 (fun h => h rfl)) (fun _ => ?_)
        refine J.aload6 X dJ1_removeNode_237 ?_
        refine J.iload9 X dJ1_removeNode_239 ?_
        refine J.aload10 X dJ1_removeNode_241 ?_
        refine J.getf X dJ1_removeNode_243 fl_J1_177_J34 ((S.e hk)) rfl ?_
        refine J.lm_fO (x := nx z) X dJ1_removeNode_246 S rfl hnk rfl rfl hjn (by omega) (fun h S => ?_)
        refine J.goto (tgt := 260) X dJ1_removeNode_247 (by decide) ?_
        exact tail _ _ _ (Or.inl ⟨h1, rfl, rfl⟩) S
      · have hzD : z ∈ D := hm3 z (by rw [hBj]; exact List.mem_append_left _ (lst_in hz))
        have hzk : k ≠ z := fun e => by
          rw [hBj] at hbn
          exact (List.nodup_append.mp hbn).2.2 z (lst_in hz) k List.mem_cons_self e.symm
        refine J.acmp_ne (rx := some _) (ry := some _) (tgt := 250) X dJ1_removeNode_234 (by decide) (fun _ => ?_) (fun q9 => absurd q9 (fun h => T.ap hk hzD hzk (Option.some.inj h)))
        refine J.aload7 X dJ1_removeNode_250 ?_
        refine J.aload10 X dJ1_removeNode_252 ?_
        refine J.getf X dJ1_removeNode_254 fl_J1_177_J34 ((S.e hk)) rfl ?_
        refine J.lm_nx (k := z) (x := nx k) X dJ1_removeNode_257 (pl_J1_177_J34 _) S hzD rfl (fun h S => ?_)
        exact tail _ _ _ (Or.inr ⟨z, hz, rfl, rfl⟩) S
    cases hL : B (hsh k % n) with
    | nil =>
      rw [hL] at hm2
      refine J.ifnullN (a := 0) (tgt := 289) X dJ1_removeNode_34 (by decide) ?_
      refine J.aconst_null X dJ1_removeNode_289 ?_
      refine J.areturnO X dJ1_removeNode_290 (jRa.ofN ?_)
      exact Or.inl ⟨fun z => (by cases hm2 z), rfl, rfl⟩
    | cons k1 r =>
      rw [hL] at hm2 hm3 hch
      have hk1 := hm3 k1 List.mem_cons_self
      have b1 := hsh_lt (T.2.1 k1 hk1).1
      have loop : ∀ (r : List Nat) (x z : Nat) (l1 : List Nat) (y : Option Value), B (hsh k % n) = l1 ++ x :: r → lst none l1 = some z → Chn nx (nx x) r → (∀ w ∈ x :: r, w ∈ D) → (k ∈ D → k ∈ x :: r) → J M hE 115 [some (.ref m), some (.int (nI (hsh k))), some (.ref a), some .null, some (.int (nI 0)), some (.int (nI b)), some (.ref tA), some (.ref (ea z)), some (.int (nI n)), some (.int (nI (hsh k % n))), some .null, some (.ref (ea x)), y, none] [] := by
        intro r
        induction r with
        | nil =>
          intro x z l1 y hBj hz hc hD hk9
          have hx := hD x List.mem_cons_self
          have b3 := hsh_lt (T.2.1 x hx).1
          have hx4 := (T.2.1 x hx).1
          refine J.aload11 X dJ1_removeNode_115 ?_
          refine J.getf X dJ1_removeNode_117 fl_J1_168_J34 ((T.2.1 x hx).2.1) rfl ?_
          refine J.iload1 X dJ1_removeNode_120 ?_
          refine J.icmp_neN (tgt := 156) X dJ1_removeNode_121 (by decide) (by omega) (by omega) (fun c1 => ?_) (fun c1 => ?_)
          · skip
            refine J.aload11 X dJ1_removeNode_156 ?_
            refine J.astore7 X dJ1_removeNode_158 ?_
            refine J.aload11 X dJ1_removeNode_160 ?_
            refine J.getf X dJ1_removeNode_162 fl_J1_177_J34 ((T.2.1 x hx).2.1) rfl ?_
            refine J.dup X dJ1_removeNode_165 ?_
            refine J.astore11 X dJ1_removeNode_166 ?_
            rw [show nx x = none from hc]
            refine J.ifnonnullN (a := 0) (tgt := 115) X dJ1_removeNode_168 (by decide) ?_
            refine J.aload10 X dJ1_removeNode_171 ?_
            refine J.ifnullN (a := 0) (tgt := 289) X dJ1_removeNode_173 (by decide) ?_
            refine J.aconst_null X dJ1_removeNode_289 ?_
            refine J.areturnO X dJ1_removeNode_290 (jRa.ofN ?_)
            exact Or.inl ⟨fun z => c1 (by rw [List.mem_singleton.mp (hk9 z)]), rfl, rfl⟩
          · skip
            have hxk : k = x := (hsh_inj c1).symm
            subst hxk
            refine J.aload11 X dJ1_removeNode_124 ?_
            refine J.getf X dJ1_removeNode_126 fl_J1_170_J34 ((T.2.1 k hx).2.1) rfl ?_
            refine J.dup X dJ1_removeNode_129 ?_
            refine J.astore12 X dJ1_removeNode_130 ?_
            refine J.aload2 X dJ1_removeNode_132 ?_
            refine J.acmp_eq (rx := some _) (ry := some _) (tgt := 149) X dJ1_removeNode_133 (by decide) (fun c2 => ?_) (fun c2 => ?_)
            · skip
              refine J.aload11 X dJ1_removeNode_149 ?_
              refine J.astore10 X dJ1_removeNode_151 ?_
              refine J.goto (tgt := 171) X dJ1_removeNode_153 (by decide) ?_
              exact fin l1 [] z _ _ hBj (Or.inr hz)
            · skip
              refine J.aload2 X dJ1_removeNode_136 ?_
              refine J.ifnullR (tgt := 156) X dJ1_removeNode_137 (by decide) ?_
              refine J.aload2 X dJ1_removeNode_140 ?_
              refine J.aload12 X dJ1_removeNode_141 ?_
              refine J.callUi X dJ1_removeNode_143 lk_J1_173_X8 ce_X8_equals (ky_equals F g.2.1 (hK k hx).2.1 (by omega) (by omega) (by omega) (by omega)) (by decide) rfl (g.2.1) rfl (fun r h' e _ => ?_)
              obtain ⟨rfl, rfl⟩ := e
              refine J.if_eqB (tgt := 156) X dJ1_removeNode_146 (by decide) (fun c3 => ?_) (fun c3 => ?_)
              · skip
                exact absurd ⟨rfl, rfl⟩ c3
              · skip
                refine J.aload11 X dJ1_removeNode_149 ?_
                refine J.astore10 X dJ1_removeNode_151 ?_
                refine J.goto (tgt := 171) X dJ1_removeNode_153 (by decide) ?_
                exact fin l1 [] z _ _ hBj (Or.inr hz)
        | cons x2 r ih =>
          intro x z l1 y hBj hz hc hD hk9
          have hx := hD x List.mem_cons_self
          have b3 := hsh_lt (T.2.1 x hx).1
          have hx4 := (T.2.1 x hx).1
          refine J.aload11 X dJ1_removeNode_115 ?_
          refine J.getf X dJ1_removeNode_117 fl_J1_168_J34 ((T.2.1 x hx).2.1) rfl ?_
          refine J.iload1 X dJ1_removeNode_120 ?_
          refine J.icmp_neN (tgt := 156) X dJ1_removeNode_121 (by decide) (by omega) (by omega) (fun c1 => ?_) (fun c1 => ?_)
          · skip
            refine J.aload11 X dJ1_removeNode_156 ?_
            refine J.astore7 X dJ1_removeNode_158 ?_
            refine J.aload11 X dJ1_removeNode_160 ?_
            refine J.getf X dJ1_removeNode_162 fl_J1_177_J34 ((T.2.1 x hx).2.1) rfl ?_
            refine J.dup X dJ1_removeNode_165 ?_
            refine J.astore11 X dJ1_removeNode_166 ?_
            rw [show nx x = some x2 from hc.1]
            refine J.ifnonnullR (tgt := 115) X dJ1_removeNode_168 (by decide) ?_
            refine ih x2 x (l1 ++ [x]) _ (by rw [hBj]; simp) (by rw [lst_app]; rfl) hc.2 (fun w hw => hD w (List.mem_cons_of_mem _ hw)) (fun q9 => (List.mem_cons.mp (hk9 q9)).resolve_left (fun w => c1 (by rw [w])))
          · skip
            have hxk : k = x := (hsh_inj c1).symm
            subst hxk
            refine J.aload11 X dJ1_removeNode_124 ?_
            refine J.getf X dJ1_removeNode_126 fl_J1_170_J34 ((T.2.1 k hx).2.1) rfl ?_
            refine J.dup X dJ1_removeNode_129 ?_
            refine J.astore12 X dJ1_removeNode_130 ?_
            refine J.aload2 X dJ1_removeNode_132 ?_
            refine J.acmp_eq (rx := some _) (ry := some _) (tgt := 149) X dJ1_removeNode_133 (by decide) (fun c2 => ?_) (fun c2 => ?_)
            · skip
              refine J.aload11 X dJ1_removeNode_149 ?_
              refine J.astore10 X dJ1_removeNode_151 ?_
              refine J.goto (tgt := 171) X dJ1_removeNode_153 (by decide) ?_
              exact fin l1 (x2 :: r) z _ _ hBj (Or.inr hz)
            · skip
              refine J.aload2 X dJ1_removeNode_136 ?_
              refine J.ifnullR (tgt := 156) X dJ1_removeNode_137 (by decide) ?_
              refine J.aload2 X dJ1_removeNode_140 ?_
              refine J.aload12 X dJ1_removeNode_141 ?_
              refine J.callUi X dJ1_removeNode_143 lk_J1_173_X8 ce_X8_equals (ky_equals F g.2.1 (hK k hx).2.1 (by omega) (by omega) (by omega) (by omega)) (by decide) rfl (g.2.1) rfl (fun r h' e _ => ?_)
              obtain ⟨rfl, rfl⟩ := e
              refine J.if_eqB (tgt := 156) X dJ1_removeNode_146 (by decide) (fun c3 => ?_) (fun c3 => ?_)
              · skip
                exact absurd ⟨rfl, rfl⟩ c3
              · skip
                refine J.aload11 X dJ1_removeNode_149 ?_
                refine J.astore10 X dJ1_removeNode_151 ?_
                refine J.goto (tgt := 171) X dJ1_removeNode_153 (by decide) ?_
                exact fin l1 (x2 :: r) z _ _ hBj (Or.inr hz)
      refine J.ifnullR (tgt := 289) X dJ1_removeNode_34 (by decide) ?_
      have rest : ∀ y, k1 ≠ k → J M hE 81 [some (.ref m), some (.int (nI (hsh k))), some (.ref a), some .null, some (.int (nI 0)), some (.int (nI b)), some (.ref tA), some (.ref (ea k1)), some (.int (nI n)), some (.int (nI (hsh k % n))), some .null, none, y, none] [] := by
        intro y hne
        refine J.aload7 X dJ1_removeNode_81 ?_
        refine J.getf X dJ1_removeNode_83 fl_J1_177_J34 ((T.2.1 k1 hk1).2.1) rfl ?_
        refine J.dup X dJ1_removeNode_86 ?_
        refine J.astore11 X dJ1_removeNode_87 ?_
        cases r with
        | nil =>
          rw [show nx k1 = none from hch.2]
          refine J.ifnullN (a := 0) (tgt := 171) X dJ1_removeNode_89 (by decide) ?_
          refine J.aload10 X dJ1_removeNode_171 ?_
          refine J.ifnullN (a := 0) (tgt := 289) X dJ1_removeNode_173 (by decide) ?_
          refine J.aconst_null X dJ1_removeNode_289 ?_
          refine J.areturnO X dJ1_removeNode_290 (jRa.ofN ?_)
          exact Or.inl ⟨fun z => hne (List.mem_singleton.mp (hm2 z)).symm, rfl, rfl⟩
        | cons z r =>
          rw [show nx k1 = some z from hch.2.1]
          refine J.ifnullR (tgt := 171) X dJ1_removeNode_89 (by decide) ?_
          refine J.aload7 X dJ1_removeNode_92 ?_
          refine J.instNo X dJ1_removeNode_94 cl_J1_180 jcl_13 (nc_tree F) ((T.2.1 k1 hk1).2.1) ?_
          refine J.topi (y := nI 0) rfl ?_
          refine J.if_eqN (tgt := 115) X dJ1_removeNode_97 (by decide) (by omega) (fun _ => ?_) (fun q9 => absurd q9 (by omega))
          exact loop r z k1 [k1] _ hL rfl hch.2.2 (fun w hw => hm3 w (List.mem_cons_of_mem _ hw)) (fun q9 => (List.mem_cons.mp (hm2 q9)).resolve_left (fun w => hne w.symm))
      refine J.aconst_null X dJ1_removeNode_37 ?_
      refine J.astore10 X dJ1_removeNode_38 ?_
      refine J.aload7 X dJ1_removeNode_40 ?_
      refine J.getf X dJ1_removeNode_42 fl_J1_168_J34 ((T.2.1 k1 hk1).2.1) rfl ?_
      refine J.iload1 X dJ1_removeNode_45 ?_
      refine J.icmp_neN (tgt := 81) X dJ1_removeNode_46 (by decide) (by omega) (by omega) (fun c1 => ?_) (fun c1 => ?_)
      · skip
        exact rest _ (fun z => c1 (by rw [z]))
      · skip
        have hxk : k = k1 := (hsh_inj c1).symm
        subst hxk
        refine J.aload7 X dJ1_removeNode_49 ?_
        refine J.getf X dJ1_removeNode_51 fl_J1_170_J34 ((T.2.1 k hk1).2.1) rfl ?_
        refine J.dup X dJ1_removeNode_54 ?_
        refine J.astore12 X dJ1_removeNode_55 ?_
        refine J.aload2 X dJ1_removeNode_57 ?_
        refine J.acmp_eq (rx := some _) (ry := some _) (tgt := 74) X dJ1_removeNode_58 (by decide) (fun c2 => ?_) (fun c2 => ?_)
        · skip
          refine J.aload7 X dJ1_removeNode_74 ?_
          refine J.astore10 X dJ1_removeNode_76 ?_
          refine J.goto (tgt := 171) X dJ1_removeNode_78 (by decide) ?_
          exact fin [] r k _ _ hL (Or.inl ⟨rfl, rfl⟩)
        · skip
          refine J.aload2 X dJ1_removeNode_61 ?_
          refine J.ifnullR (tgt := 81) X dJ1_removeNode_62 (by decide) ?_
          refine J.aload2 X dJ1_removeNode_65 ?_
          refine J.aload12 X dJ1_removeNode_66 ?_
          refine J.callUi X dJ1_removeNode_68 lk_J1_173_X8 ce_X8_equals (ky_equals F g.2.1 (hK k hk1).2.1 (by omega) (by omega) (by omega) (by omega)) (by decide) rfl (g.2.1) rfl (fun r h' e _ => ?_)
          obtain ⟨rfl, rfl⟩ := e
          refine J.if_eqB (tgt := 81) X dJ1_removeNode_71 (by decide) (fun c3 => ?_) (fun c3 => ?_)
          · skip
            exact absurd ⟨rfl, rfl⟩ c3
          · skip
            refine J.aload7 X dJ1_removeNode_74 ?_
            refine J.astore10 X dJ1_removeNode_76 ?_
            refine J.goto (tgt := 171) X dJ1_removeNode_78 (by decide) ?_
            exact fin [] r k _ _ hL (Or.inl ⟨rfl, rfl⟩)
theorem lm_remove {K : JK} {l : Launch} {hE : JIH} {t m : Nat} {D : List Nat} {ea : Nat → Nat} {ka : Nat → Nat} {ta : Nat → Nat} {nx : Nat → Option Nat} {bf : Nat → Option Nat} {af : Nat → Option Nat} {tb : Option Nat} {n : Nat} {f : Nat → Option Nat} {es : Option Nat} {ks : Option Nat} {vs : Option Nat} {sz : Nat} {mc : Int32} {th : Nat} {lf : Value} {hd : Option Nat} {tl : Option Nat} (F : JF K) (T : LmR K t hE m D ea ka ta nx bf af tb n f es ks vs sz mc th lf hd tl) (W : LmW D ea nx bf af tb n f th hd tl) (hK : ∀ j ∈ D, IsKey hE (ka j) j) (hsz : sz = D.length) {a k : Nat} (g : IsKey hE a k) :
    Ct K l yJ1_remove wJ1_remove 4 [.ref m, .ref a] hE (jRa (fun r h' => (k ∉ D ∧ r = none ∧ hE = h') ∨ (k ∈ D ∧ r = some (ta k) ∧ ∃ (nx' bf' af' f' : Nat → Option Nat) (hd' tl' : Option Nat), LmS K t 0 hE h' m D ea ka ta (nx') (bf') (af') tb n (f') es ks vs (sz - 1) (mc + nI 1) th lf (hd') (tl') ∧ LmW (D.erase k) ea nx' bf' af' tb n f' th hd' tl'))) jNo := by
  refine st_J1_remove (ls := [some (.ref m), some (.ref a), none]) F rfl (body := fun M X => ?_)
  refine J.aload0 X dJ1_remove_0 ?_
  refine J.aload1 X dJ1_remove_1 ?_
  refine J.callSi X dJ1_remove_2 lk_J1_149 ce_J1_hash (hm_hash F g) (by decide) rfl (fun r h' e _ => ?_)
  obtain ⟨rfl, rfl⟩ := e
  refine J.aload1 X dJ1_remove_5 ?_
  refine J.aconst_null X dJ1_remove_6 ?_
  refine J.iconst (v := nI 0) X dJ1_remove_7 (by decide) ?_
  refine J.iconst (v := nI 1) X dJ1_remove_8 (by decide) ?_
  refine J.callVa X dJ1_remove_9 lk_J1_228_J2 ce_J1_removeNode (lm_remNode F T W hK hsz g) (by decide) rfl (T.1.1) rfl (fun r h' e _ => ?_)
  rcases e with ⟨h1, rfl, rfl⟩ | ⟨h1, rfl, nx', bf', af', f', hd', tl', S, W'⟩
  · skip
    refine J.dup X dJ1_remove_12 ?_
    refine J.astore2 X dJ1_remove_13 ?_
    refine J.ifnonnullN (a := 0) (tgt := 21) X dJ1_remove_14 (by decide) ?_
    refine J.aconst_null X dJ1_remove_17 ?_
    refine J.goto (tgt := 25) X dJ1_remove_18 (by decide) ?_
    refine J.areturnO X dJ1_remove_25 (jRa.ofN ?_)
    exact Or.inl ⟨h1, rfl, rfl⟩
  · skip
    refine J.dup X dJ1_remove_12 ?_
    refine J.astore2 X dJ1_remove_13 ?_
    refine J.ifnonnullR (tgt := 21) X dJ1_remove_14 (by decide) ?_
    refine J.aload2 X dJ1_remove_21 ?_
    refine J.getf X dJ1_remove_22 fl_J1_162_J34 ((S.e h1)) rfl ?_
    refine J.areturnO X dJ1_remove_25 (jRa.ofR ?_)
    exact Or.inr ⟨h1, rfl, nx', bf', af', f', hd', tl', S, W'⟩
/-- an iterator takes away what it gave last -/
theorem it_remove {K : JK} {l : Launch} {hE : JIH} {t m : Nat} {D : List Nat} {ea : Nat → Nat} {ka : Nat → Nat} {ta : Nat → Nat} {nx : Nat → Option Nat} {bf : Nat → Option Nat} {af : Nat → Option Nat} {tb : Option Nat} {n : Nat} {f : Nat → Option Nat} {es : Option Nat} {ks : Option Nat} {vs : Option Nat} {sz : Nat} {mc : Int32} {th : Nat} {lf : Value} {hd : Option Nat} {tl : Option Nat} (F : JF K) (T : LmR K t hE m D ea ka ta nx bf af tb n f es ks vs sz mc th lf hd tl) (W : LmW D ea nx bf af tb n f th hd tl) (hK : ∀ j ∈ D, IsKey hE (ka j) j) (hsz : sz = D.length) {i k : Nat} {nxt : Option Nat} (hk : k ∈ D) (hi : hc hE 6 i (jO 22 (itO nxt (some (ea k)) mc m))) (ht : t ≠ 6) :
    Ct K l yJ11_remove wJ11_remove 4 [.ref i] hE (jRv (fun h' => ∃ (nx' bf' af' f' : Nat → Option Nat) (hd' tl' : Option Nat), LmR K t h' m D ea ka ta (nx') (bf') (af') tb n (f') es ks vs (sz - 1) (mc + nI 1) th lf (hd') (tl') ∧ LmW (D.erase k) ea nx' bf' af' tb n f' th hd' tl' ∧ Fr (fun x => x = t ∨ x = 6) hE h' ∧ hres h' = hres hE)) jNo := by
  refine st_J11_remove (ls := [some (.ref i), none]) F rfl (body := fun M X => ?_)
  refine J.aload0 X dJ11_remove_0 ?_
  refine J.getf X dJ11_remove_1 fl_J11_36_J12 (hi.1) rfl ?_
  refine J.astore1 X dJ11_remove_4 ?_
  refine J.aload1 X dJ11_remove_5 ?_
  refine J.ifnonnullR (tgt := 17) X dJ11_remove_6 (by decide) ?_
  refine J.aload0 X dJ11_remove_17 ?_
  refine J.getf X dJ11_remove_18 fl_J11_1_J12 (hi.1) rfl ?_
  refine J.getf X dJ11_remove_21 fl_J11_29_J2 (T.1.1) rfl ?_
  refine J.aload0 X dJ11_remove_24 ?_
  refine J.getf X dJ11_remove_25 fl_J11_33_J12 (hi.1) rfl ?_
  refine J.icmp_eq (tgt := 39) X dJ11_remove_28 (by decide) (fun _ => ?_) (fun q9 => absurd q9 (fun h => h rfl))
  refine J.aload0 X dJ11_remove_39 ?_
  refine J.aconst_null X dJ11_remove_40 ?_
  refine J.fresh hi.1 ?_
  refine J.putfS X dJ11_remove_41 (pl_J11_36_J12 _) (hi.1) (Nat.le_of_ble_eq_true rfl) (rfl) (rfl) ?_
  have f1 : Fr (fun x => x = 6) hE (hset hE i (jO 22 (itO nxt none mc m))) := Fr.set hi rfl
  have T1 := T.fr f1 ht
  have hK1 : ∀ j ∈ D, IsKey (hset hE i (jO 22 (itO nxt none mc m))) (ka j) j := fun j hj => (hK j hj).fr f1 (by decide)
  have hi1 := hi.same (jO 22 (itO nxt none mc m))
  show J M (hset hE i (jO 22 (itO nxt none mc m))) _ _ _
  generalize hh1 : hset hE i (jO 22 (itO nxt none mc m)) = h1 at f1 T1 hK1 hi1
  refine J.aload0 X dJ11_remove_44 ?_
  refine J.getf X dJ11_remove_45 fl_J11_1_J12 (hi1.1) rfl ?_
  refine J.aload1 X dJ11_remove_48 ?_
  refine J.getf X dJ11_remove_49 fl_J11_56_J34 ((T1.2.1 k hk).2.1) rfl ?_
  refine J.aload1 X dJ11_remove_52 ?_
  refine J.getf X dJ11_remove_53 fl_J11_61_J34 ((T1.2.1 k hk).2.1) rfl ?_
  refine J.aconst_null X dJ11_remove_56 ?_
  refine J.iconst (v := nI 0) X dJ11_remove_57 (by decide) ?_
  refine J.iconst (v := nI 0) X dJ11_remove_58 (by decide) ?_
  refine J.callUa X dJ11_remove_59 lk_J11_65_J2 ce_J1_removeNode (lm_remNode F T1 W hK1 hsz (hK1 k hk) (b := 0)) (by decide) rfl (T1.1.1) rfl (fun r h2 e _ => ?_)
  rcases e with ⟨z, -⟩ | ⟨-, rfl, nx', bf', af', f', hd', tl', S, W'⟩
  · exact absurd hk z
  have hi2 := hi1.fr S.2.1 (fun z => ht z.symm)
  refine J.pop X dJ11_remove_62 ?_
  refine J.aload0 X dJ11_remove_63 ?_
  refine J.aload0 X dJ11_remove_64 ?_
  refine J.getf X dJ11_remove_65 fl_J11_1_J12 (hi2.1) rfl ?_
  refine J.getf X dJ11_remove_68 fl_J11_29_J2 (S.o) rfl ?_
  refine J.fresh hi2.1 ?_
  refine J.putfS X dJ11_remove_71 (pl_J11_33_J12 _) (hi2.1) (Nat.le_of_ble_eq_true rfl) (rfl) (rfl) ?_
  refine J.vreturn X dJ11_remove_74 (jRv.of ?_)
  have f3 : Fr (fun x => x = 6) h2 (hset h2 i (jO 22 (itO nxt none (mc + nI 1) m))) := Fr.set hi2 rfl
  refine ⟨nx', bf', af', f', hd', tl', S.1.fr f3 ht, W', ((f1.mono (fun x hx => Or.inr hx)).tr (S.2.1.mono (fun x hx => Or.inl hx))).tr (f3.mono (fun x hx => Or.inr hx)), ?_⟩
  show hres (hset h2 i (jO 22 (itO nxt none (mc + nI 1) m))) = _
  refine (hres_setS hi2 ?_).trans ?_
  · rfl
  · rw [S.2.2, ← hh1]
    refine hres_setS hi ?_
    rfl
