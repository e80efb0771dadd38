/-! LinkedHashMap: the table grows to twice its size -/
theorem lm_resize {K : JK} {l : Launch} {hE : JIH} {t m tA : Nat} {D : List Nat} {ea : Nat → Nat} {ka : Nat → Nat} {ta : Nat → Nat} {nx : Nat → Option Nat} {bf : Nat → Option Nat} {af : Nat → Option Nat} {n : Nat} {f : Nat → Option Nat} {es : Option Nat} {ks : Option Nat} {vs : Option Nat} {sz : Nat} {mc : Int32} {th : Nat} {lf : Value} {hd : Option Nat} {tl : Option Nat} (F : JF K) (T : LmR K t hE m D ea ka ta nx bf af (some tA) n f es ks vs sz mc th lf hd tl) (W : LmW D ea nx bf af (some tA) n f th hd tl) (hn9 : n ≤ 512) (hr : hres hE + (8 + 2 * n) ≤ jRL) :
    Ct K l yJ1_resize wJ1_resize 0 [.ref m] hE (jRa (fun r h' => ∃ (a : Nat) (nx' f' : Nat → Option Nat), r = some a ∧ LmS K t (8 + 2 * n) hE h' m D ea ka ta (nx') bf af (some a) (2 * n) (f') es ks vs sz mc (2 * th) lf hd tl ∧ LmW D ea nx' bf af (some a) (2 * n) f' (2 * th) hd tl)) jNo := by
  rcases id W.2.2.2.2 with ⟨z, -⟩ | ⟨tA', q, B, htb, h4, h10, hn, hth, hB⟩
  · cases z
  cases htb
  have h9 : q ≤ 9 := by
    rcases Nat.lt_or_ge q 10 with c | c
    · omega
    · rw [show q = 10 by omega] at hn
      exact absurd hn (by omega)
  have hp := pow_le h4 h10
  rw [← hn] at hp
  have hBd : ∀ i i' x, i < n → i' < n → x ∈ B i → x ∈ B i' → i = i' := fun i i' x hi hi' h1 h2 => (((hB i hi).2.2.2 x).mp h1).2.symm.trans (((hB i' hi').2.2.2 x).mp h2).2
  refine st_J1_resize (ls := [some (.ref m), none, none, none, none, none, none, none, none, none, none, none, none, none]) F rfl (body := fun M X => ?_)
  have S := T.S
  refine J.aload0 X dJ1_resize_0 ?_
  refine J.getf X dJ1_resize_1 fl_J1_105_J2 (S.o) rfl ?_
  refine J.astore1 X dJ1_resize_4 ?_
  refine J.aload1 X dJ1_resize_5 ?_
  refine J.ifnonnullR (tgt := 13) X dJ1_resize_6 (by decide) ?_
  refine J.aload1 X dJ1_resize_13 ?_
  refine J.alen (t := 6) (v := nI n) X dJ1_resize_14 ((T.2.2.1 tA rfl).1) rfl (rfl) ?_
  refine J.istore2 X dJ1_resize_15 ?_
  refine J.aload0 X dJ1_resize_16 ?_
  refine J.getf X dJ1_resize_17 fl_J1_88_J2 (S.o) rfl ?_
  refine J.istore3 X dJ1_resize_20 ?_
  refine J.iconst (v := nI 0) X dJ1_resize_21 (by decide) ?_
  refine J.istore5 X dJ1_resize_22 ?_
  refine J.iload2 X dJ1_resize_24 ?_
  refine J.if_leN (tgt := 67) X dJ1_resize_25 (by decide) (by omega) (fun q9 => absurd q9 (by omega)) (fun _ => ?_)
  refine J.iload2 X dJ1_resize_28 ?_
  refine J.ldc (v := nI 1073741824) X dJ1_resize_29 q1770 ?_
  refine J.icmp_ltN (tgt := 42) X dJ1_resize_31 (by decide) (by omega) (by omega) (fun _ => ?_) (fun q9 => absurd q9 (by omega))
  refine J.iload2 X dJ1_resize_42 ?_
  refine J.iconst (v := nI 1) X dJ1_resize_43 (by decide) ?_
  refine J.ishl X dJ1_resize_44 ?_
  refine J.topi (y := nI (2 * n)) (by rw [hn]; exact shl1 h4 h9) ?_
  refine J.dup X dJ1_resize_45 ?_
  refine J.istore4 X dJ1_resize_46 ?_
  refine J.ldc (v := nI 1073741824) X dJ1_resize_48 q1770 ?_
  refine J.icmp_geN (tgt := 85) X dJ1_resize_50 (by decide) (by omega) (by omega) (fun q9 => absurd q9 (by omega)) (fun _ => ?_)
  refine J.iload2 X dJ1_resize_53 ?_
  refine J.bipush (v := nI 16) X dJ1_resize_54 (by decide) ?_
  refine J.icmp_ltN (tgt := 85) X dJ1_resize_56 (by decide) (by omega) (by omega) (fun q9 => absurd q9 (by omega)) (fun _ => ?_)
  refine J.iload3 X dJ1_resize_59 ?_
  refine J.iconst (v := nI 1) X dJ1_resize_60 (by decide) ?_
  refine J.ishl X dJ1_resize_61 ?_
  refine J.topi (y := nI (2 * th)) (shl2 h4 h9 (hn ▸ hth)) ?_
  refine J.istore5 X dJ1_resize_62 ?_
  refine J.goto (tgt := 85) X dJ1_resize_64 (by decide) ?_
  refine J.iload5 X dJ1_resize_85 ?_
  refine J.if_neN (tgt := 125) X dJ1_resize_87 (by decide) (by omega) (fun _ => ?_) (fun q9 => absurd q9 (by omega))
  refine J.aload0 X dJ1_resize_125 ?_
  refine J.iload5 X dJ1_resize_126 ?_
  refine J.lm_th (x := 2 * th) X dJ1_resize_128 (pl_J1_88_J2 _) S rfl (fun h S => ?_)
  refine J.iload4 X dJ1_resize_131 ?_
  have hr2 : hres h + (8 + 2 * n) ≤ jRL := by rw [S.2.2]; omega
  refine J.newR (tt := 6) (n := 2 * n) t X dJ1_resize_133 cl_J1_163 q1774 rfl rfl (by omega) hr2 ?_
  have cn := hc.new h t (jAR K 6 (2 * n) (fun _ => none))
  have hlt : tA < hnew h := (S.1.2.2.1 tA rfl).lt
  replace S := S.push t (jAR K 6 (2 * n) (fun _ => none))
  have H := S.1.2.2.1 tA rfl
  refine J.astore6 X dJ1_resize_136 ?_
  refine J.aload0 X dJ1_resize_138 ?_
  refine J.aload6 X dJ1_resize_139 ?_
  generalize hnew h = nT at cn hlt
  have hne : nT ≠ tA := by omega
  refine J.lm_tb X dJ1_resize_141 (pl_J1_105_J2 _) S cn (fun h9 S9 e9 => ?_)
  replace H : hc h9 t tA (jAR K 6 n f) := by rw [e9]; exact H.ne _ (S.1.apmt rfl)
  clear e9 cn S
  replace S9 : LmS K t (8 + 2 * n) hE h9 m D ea ka ta nx bf af (some nT) (2 * n) (fun _ => none) es ks vs sz mc (2 * th) lf hd tl := by
    rw [show 8 + 2 * n = 0 + (8 + esz (jAR K 6 (2 * n) (fun _ => none))) by show _ = 0 + (8 + 2 * n); omega]; exact S9
  refine J.aload1 X dJ1_resize_144 ?_
  refine J.ifnullR (tgt := 353) X dJ1_resize_145 (by decide) ?_
  refine J.iconst (v := nI 0) X dJ1_resize_148 (by decide) ?_
  refine J.istore7 X dJ1_resize_149 ?_
  have R0 : RzI ea B n 0 nx f (fun _ => none) := ⟨fun i _ hi => ⟨(hB i hi).1, (hB i hi).2.1⟩, fun i hi => absurd hi (by omega), fun i _ _ => ⟨rfl, rfl⟩⟩
  suffices loop : ∀ (d j : Nat), j + d = n → ∀ (h : JIH) (nx' f0 f' : Nat → Option Nat) (y8 y9 y10 y11 y12 y13 : Option Value), LmS K t (8 + 2 * n) hE h m D ea ka ta (nx') bf af (some nT) (2 * n) (f') es ks vs sz mc (2 * th) lf hd tl → hc h t tA (jAR K 6 n f0) → RzI ea B n j nx' f0 f' → J M h 151 [some (.ref m), some (.ref tA), some (.int (nI n)), some (.int (nI th)), some (.int (nI (2 * n))), some (.int (nI (2 * th))), some (.ref nT), some (.int (nI j)), y8, y9, y10, y11, y12, y13] [] from loop n 0 (by omega) _ _ _ _ _ _ _ _ _ _ S9 H R0
  clear S9 H R0
  intro d
  induction d with
  | zero =>
    intro j hj h nx' f0 f' y8 y9 y10 y11 y12 y13 S H R
    obtain rfl : j = n := by omega
    refine J.iload7 X dJ1_resize_151 ?_
    refine J.iload2 X dJ1_resize_153 ?_
    refine J.icmp_geN (tgt := 353) X dJ1_resize_154 (by decide) (by omega) (by omega) (fun _ => ?_) (fun q9 => absurd q9 (by omega))
    refine J.aload6 X dJ1_resize_353 ?_
    refine J.areturnA X dJ1_resize_355 (jRa.ofR ?_)
    obtain ⟨B', hB'⟩ := R.fin (by omega) hB
    exact ⟨nT, nx', f', rfl, S, W.1, W.2.1, W.2.2.1, W.2.2.2.1, Or.inr ⟨nT, q + 1, B', rfl, by omega, by omega, by rw [hn, Nat.pow_succ]; omega, by omega, hB'⟩⟩
  | succ d ih =>
    intro j hj h nx' f0 f' y8 y9 y10 y11 y12 y13 S H R
    have hjn : j < n := by omega
    have f347 : ∀ (h : JIH) (nx2 f02 f2 : Nat → Option Nat) (y8 y9 y10 y11 y12 y13 : Option Value), LmS K t (8 + 2 * n) hE h m D ea ka ta (nx2) bf af (some nT) (2 * n) (f2) es ks vs sz mc (2 * th) lf hd tl → hc h t tA (jAR K 6 n f02) → RzI ea B n (j + 1) nx2 f02 f2 → J M h 347 [some (.ref m), some (.ref tA), some (.int (nI n)), some (.int (nI th)), some (.int (nI (2 * n))), some (.int (nI (2 * th))), some (.ref nT), some (.int (nI j)), y8, y9, y10, y11, y12, y13] [] := by
      intro h nx2 f02 f2 y8 y9 y10 y11 y12 y13 S H R
      refine J.iinc7N (d := 1) X dJ1_resize_347 (by decide) ?_
      refine J.goto (tgt := 151) X dJ1_resize_350 (by decide) ?_
      exact ih (j + 1) (by omega) _ _ _ _ _ _ _ _ _ _ S H R
    refine J.iload7 X dJ1_resize_151 ?_
    refine J.iload2 X dJ1_resize_153 ?_
    refine J.icmp_geN (tgt := 353) X dJ1_resize_154 (by decide) (by omega) (by omega) (fun q9 => absurd q9 (by omega)) (fun _ => ?_)
    refine J.aload1 X dJ1_resize_157 ?_
    refine J.iload7 X dJ1_resize_158 ?_
    refine J.aald X dJ1_resize_160 (H.1) rfl (rfl) (by omega) ?_
    refine J.dup X dJ1_resize_161 ?_
    refine J.astore8 X dJ1_resize_162 ?_
    obtain ⟨e0, hch⟩ := R.1 j (Nat.le_refl _) hjn
    rw [e0]
    have hbn := (hB j hjn).2.2.1
    have hmem : ∀ x ∈ B j, x ∈ D ∧ hsh x % n = j := fun x hx => ((hB j hjn).2.2.2 x).mp hx
    cases hL : B j with
    | nil =>
      refine J.ifnullN (a := 0) (tgt := 347) X dJ1_resize_164 (by decide) ?_
      refine f347 _ _ _ _ _ _ _ _ _ _ S H (R.step hjn hBd (fun _ _ => rfl) (fun _ _ => rfl) (fun _ _ _ => rfl) ?_ ?_ ?_ ?_)
      · rw [hL]; exact (R.2.2 j (Nat.le_refl _) hjn).1
      · rw [hL]; rfl
      · rw [hL]; exact (R.2.2 j (Nat.le_refl _) hjn).2
      · rw [hL]; rfl
    | cons x r =>
      have hx := (hmem x (by rw [hL]; exact List.mem_cons_self)).1
      have hxj := (hmem x (by rw [hL]; exact List.mem_cons_self)).2
      have bx := hsh_lt (S.k hx)
      refine J.ifnullR (tgt := 347) X dJ1_resize_164 (by decide) ?_
      refine J.aload1 X dJ1_resize_167 ?_
      refine J.iload7 X dJ1_resize_168 ?_
      refine J.aconst_null X dJ1_resize_170 ?_
      refine J.aastN X dJ1_resize_171 H.1 rfl rfl hjn ?_
      replace S := S.w_x H (e := jAR K 6 n (va_up f0 j none)) rfl (S.1.1.apE H (fun z => by cases z)).symm (fun k hk => ((S.1.2.1 k hk).2.apE H (fun z => by cases z)).symm) (fun b hb => by cases hb; exact hne.symm) (fun b hb => ((S.1.2.2.2.1 b hb).apE H (fun z => by cases z)).symm) (fun b hb => ((S.1.2.2.2.2.1 b hb).apE H (fun z => by cases z)).symm) (fun b hb => ((S.1.2.2.2.2.2 b hb).apE H (fun z => by cases z)).symm)
      replace H := H.same (jAR K 6 n (va_up f0 j none))
      generalize hset h tA (jAR K 6 n (va_up f0 j none)) = h1 at S H
      have hf02 : ∀ i, i ≠ j → va_up f0 j none i = f0 i := fun i hi => va_up_ne _ _ hi
      generalize va_up f0 j none = f02 at H hf02
      rw [hL] at hch
      refine J.aload8 X dJ1_resize_172 ?_
      refine J.getf X dJ1_resize_174 fl_J1_177_J34 ((S.e hx)) rfl ?_
      cases r with
      | nil =>
        rw [show nx' x = none from hch.2]
        refine J.ifnonnullN (a := 0) (tgt := 198) X dJ1_resize_177 (by decide) ?_
        refine J.aload6 X dJ1_resize_180 ?_
        refine J.aload8 X dJ1_resize_182 ?_
        refine J.getf X dJ1_resize_184 fl_J1_168_J34 ((S.e hx)) rfl ?_
        refine J.iload4 X dJ1_resize_187 ?_
        refine J.iconst (v := nI 1) X dJ1_resize_189 (by decide) ?_
        refine J.isubN X dJ1_resize_190 (by omega) ?_
        refine J.iand X dJ1_resize_191 ?_
        have hi2 : hsh x % (2 * n) < 2 * n := Nat.mod_lt _ (by omega)
        refine J.topi (y := nI (hsh x % (2 * n))) (by rw [show 2 * n = 2 ^ (q + 1) by rw [hn, Nat.pow_succ]; omega]; exact nI_mod _ _) ?_
        refine J.aload8 X dJ1_resize_192 ?_
        refine J.lm_fX (x := some x) X dJ1_resize_194 S rfl (fun k hk => by cases hk; exact hx) rfl rfl hi2 (by omega) (fun h2 S2 g2 => ?_)
        refine J.goto (tgt := 347) X dJ1_resize_195 (by decide) ?_
        have hm : hsh x % (2 * n) = j + n * (hsh x / n % 2) := by rw [Nat.mul_comm 2 n, Nat.mod_mul, hxj]
        have hz := R.2.2 j (Nat.le_refl _) hjn
        refine f347 _ _ _ _ _ _ _ _ _ _ S2 (g2 _ _ _ hne H) (R.step hjn hBd (fun _ _ => rfl) hf02 (fun i hi hi3 => va_up_ne _ _ (fun z => ?_)) ?_ ?_ ?_ ?_)
        · rcases (show hsh x / n % 2 = 0 ∨ hsh x / n % 2 = 1 by omega) with e | e <;> rw [e] at hm <;> omega
        · rw [hL]
          rcases (show hsh x / n % 2 = 0 ∨ hsh x / n % 2 = 1 by omega) with e | e
          · rw [show hsh x % (2 * n) = j by rw [hm, e]; omega, va_up_self, List.filter_cons_of_pos (by unfold lob; simp [e])]; rfl
          · rw [va_up_ne _ _ (by rw [hm, e]; omega), List.filter_cons_of_neg (by unfold lob; simp [e]), hz.1]; rfl
        · rw [hL]
          rcases (show hsh x / n % 2 = 0 ∨ hsh x / n % 2 = 1 by omega) with e | e
          · rw [List.filter_cons_of_pos (by unfold lob; simp [e])]; exact ⟨rfl, hch.2⟩
          · rw [List.filter_cons_of_neg (by unfold lob; simp [e])]; rfl
        · rw [hL]
          rcases (show hsh x / n % 2 = 0 ∨ hsh x / n % 2 = 1 by omega) with e | e
          · rw [va_up_ne _ _ (by rw [hm, e]; omega), List.filter_cons_of_neg (by unfold lob; simp [e]), hz.2]; rfl
          · rw [show hsh x % (2 * n) = j + n by rw [hm, e]; omega, va_up_self, List.filter_cons_of_pos (by unfold lob; simp [e])]; rfl
        · rw [hL]
          rcases (show hsh x / n % 2 = 0 ∨ hsh x / n % 2 = 1 by omega) with e | e
          · rw [List.filter_cons_of_neg (by unfold lob; simp [e])]; rfl
          · rw [List.filter_cons_of_pos (by unfold lob; simp [e])]; exact ⟨rfl, hch.2⟩
      | cons y r =>
        rw [show nx' x = some y from hch.2.1]
        refine J.ifnonnullR (tgt := 198) X dJ1_resize_177 (by decide) ?_
        refine J.aload8 X dJ1_resize_198 ?_
        refine J.instNo X dJ1_resize_200 cl_J1_180 jcl_13 (nc_tree F) ((S.e hx)) ?_
        refine J.topi (y := nI 0) rfl ?_
        refine J.if_eqN (tgt := 223) X dJ1_resize_203 (by decide) (by omega) (fun _ => ?_) (fun q9 => absurd q9 (by omega))
        refine J.aconst_null X dJ1_resize_223 ?_
        refine J.astore9 X dJ1_resize_224 ?_
        refine J.aconst_null X dJ1_resize_226 ?_
        refine J.astore10 X dJ1_resize_227 ?_
        refine J.aconst_null X dJ1_resize_229 ?_
        refine J.astore11 X dJ1_resize_230 ?_
        refine J.aconst_null X dJ1_resize_232 ?_
        refine J.astore12 X dJ1_resize_233 ?_
        -- both lists are whole
        have f309 : ∀ (L G : List Nat) (h : JIH) (nx1 : Nat → Option Nat) (y8 y13 : Option Value), (B j).filter (lob n) = L → (B j).filter (fun k => !lob n k) = G → LmS K t (8 + 2 * n) hE h m D ea ka ta (nx1) bf af (some nT) (2 * n) (f') es ks vs sz mc (2 * th) lf hd tl → hc h t tA (jAR K 6 n f02) → ChO nx1 L → ChO nx1 G → (∀ w, w ∉ B j → nx1 w = nx' w) → J M h 309 [some (.ref m), some (.ref tA), some (.int (nI n)), some (.int (nI th)), some (.int (nI (2 * n))), some (.int (nI (2 * th))), some (.ref nT), some (.int (nI j)), y8, some (va_rf (L.head?.map ea)), some (va_rf ((lst none L).map ea)), some (va_rf (G.head?.map ea)), some (va_rf ((lst none G).map ea)), y13] [] := by
          intro L G h nx1 y8 y13 eL eG S H cL cG hw
          have hz := R.2.2 j (Nat.le_refl _) hjn
          have hLB : ∀ w ∈ L, w ∈ B j ∧ lob n w = true := fun w hw => by rw [← eL] at hw; exact List.mem_filter.mp hw
          have hGB : ∀ w ∈ G, w ∈ B j ∧ (!lob n w) = true := fun w hw => by rw [← eG] at hw; exact List.mem_filter.mp hw
          have hLD : ∀ w ∈ L, w ∈ D := fun w hw => (hmem w (hLB w hw).1).1
          have hGD : ∀ w ∈ G, w ∈ D := fun w hw => (hmem w (hGB w hw).1).1
          have f327 : ∀ (h : JIH) (nx2 f2 : Nat → Option Nat), LmS K t (8 + 2 * n) hE h m D ea ka ta (nx2) bf af (some nT) (2 * n) (f2) es ks vs sz mc (2 * th) lf hd tl → hc h t tA (jAR K 6 n f02) → Chn nx2 L.head? L → f2 = va_up f' j (L.head?.map ea) → ChO nx2 G → (∀ w, w ∉ B j → nx2 w = nx' w) → J M h 327 [some (.ref m), some (.ref tA), some (.int (nI n)), some (.int (nI th)), some (.int (nI (2 * n))), some (.int (nI (2 * th))), some (.ref nT), some (.int (nI j)), y8, some (va_rf (L.head?.map ea)), some (va_rf ((lst none L).map ea)), some (va_rf (G.head?.map ea)), some (va_rf ((lst none G).map ea)), y13] [] := by
            intro h nx2 f2 S H cL e2 cG hw
            refine J.aload12 X dJ1_resize_327 ?_
            cases hl : lst none G with
            | none =>
              have hG0 := lst_none hl
              refine J.ifnullN (a := 0) (tgt := 347) X dJ1_resize_329 (by decide) ?_
              refine f347 _ _ _ _ _ _ _ _ _ _ S H (R.step hjn hBd hw hf02 (fun i hi hi3 => ?_) ?_ ?_ ?_ ?_)
              · rw [e2, va_up_ne _ _ hi]
              · rw [e2, va_up_self, eL]
              · rw [eL]; exact cL
              · rw [e2, va_up_ne _ _ (by omega), eG, hG0]; exact hz.2
              · rw [eG, hG0]; rfl
            | some z =>
              have hzG := lst_in hl
              refine J.ifnullR (tgt := 347) X dJ1_resize_329 (by decide) ?_
              refine J.aload12 X dJ1_resize_332 ?_
              refine J.aconst_null X dJ1_resize_334 ?_
              refine J.lm_nxX (k := z) (x := none) X dJ1_resize_335 (pl_J1_177_J34 _) S (hGD z hzG) rfl (fun h3 S3 g3 => ?_)
              have H3 := g3 _ _ _ ((S.1.2.1 z (hGD z hzG)).2.apE H (fun q => by cases q)) H
              refine J.aload6 X dJ1_resize_338 ?_
              refine J.iload7 X dJ1_resize_340 ?_
              refine J.iload2 X dJ1_resize_342 ?_
              refine J.iaddN X dJ1_resize_343 ?_
              refine J.aload11 X dJ1_resize_344 ?_
              refine J.lm_fX (x := G.head?) X dJ1_resize_346 S3 rfl (fun k hk => hGD k (List.mem_of_mem_head? hk)) rfl rfl (by omega) (by omega) (fun h4 S4 g4 => ?_)
              have H4 := g4 _ _ _ hne H3
              have hzL : ∀ w ∈ L, w ≠ z := fun w hw e => by
                have a1 := (hLB w hw).2
                have a2 := (hGB z hzG).2
                rw [e] at a1
                rw [a1] at a2
                cases a2
              refine f347 _ _ _ _ _ _ _ _ _ _ S4 H4 (R.step hjn hBd (fun w hw2 => ?_) hf02 (fun i hi hi3 => ?_) ?_ ?_ ?_ ?_)
              · rw [va_up_ne _ _ (fun e => hw2 (by rw [e]; exact (hGB z hzG).1))]; exact hw w hw2
              · rw [va_up_ne _ _ hi3, e2, va_up_ne _ _ hi]
              · rw [va_up_ne _ _ (by omega), e2, va_up_self, eL]
              · rw [eL]; exact cL.congr fun w hw => va_up_ne _ _ (hzL w hw)
              · rw [va_up_self, eG]
              · rw [eG]; exact cG z hl
          refine J.aload10 X dJ1_resize_309 ?_
          cases hl : lst none L with
          | none =>
            have hL0 := lst_none hl
            refine J.ifnullN (a := 0) (tgt := 327) X dJ1_resize_311 (by decide) ?_
            have := f327 h nx1 f' S H (by rw [hL0]; rfl) (by rw [hL0]; rw [show Option.map ea ([] : List Nat).head? = f' j from hz.1.symm]; exact (va_upid _ _).symm) cG hw
            rw [hl] at this
            exact this
          | some z =>
            have hzL := lst_in hl
            refine J.ifnullR (tgt := 327) X dJ1_resize_311 (by decide) ?_
            refine J.aload10 X dJ1_resize_314 ?_
            refine J.aconst_null X dJ1_resize_316 ?_
            refine J.lm_nxX (k := z) (x := none) X dJ1_resize_317 (pl_J1_177_J34 _) S (hLD z hzL) rfl (fun h3 S3 g3 => ?_)
            have H3 := g3 _ _ _ ((S.1.2.1 z (hLD z hzL)).2.apE H (fun q => by cases q)) H
            refine J.aload6 X dJ1_resize_320 ?_
            refine J.iload7 X dJ1_resize_322 ?_
            refine J.aload9 X dJ1_resize_324 ?_
            refine J.lm_fX (x := L.head?) X dJ1_resize_326 S3 rfl (fun k hk => hLD k (List.mem_of_mem_head? hk)) rfl rfl (by omega) (by omega) (fun h4 S4 g4 => ?_)
            have H4 := g4 _ _ _ hne H3
            have hzG : ∀ w ∈ G, w ≠ z := fun w hw e => by
              have a1 := (hGB w hw).2
              have a2 := (hLB z hzL).2
              rw [e, a2] at a1
              cases a1
            have := f327 h4 _ _ S4 H4 (cL z hl) rfl (cG.congr fun w hw => va_up_ne _ _ (hzG w hw)) (fun w hw2 => by rw [va_up_ne _ _ (fun e => hw2 (by rw [e]; exact (hLB z hzL).1))]; exact hw w hw2)
            rw [hl] at this
            exact this
        have stepx : ∀ (r p : List Nat) (x : Nat) (h : JIH) (nx1 : Nat → Option Nat) (y13 : Option Value), B j = p ++ x :: r → LmS K t (8 + 2 * n) hE h m D ea ka ta (nx1) bf af (some nT) (2 * n) (f') es ks vs sz mc (2 * th) lf hd tl → hc h t tA (jAR K 6 n f02) → ChO nx1 (p.filter (lob n)) → ChO nx1 (p.filter (fun k => !lob n k)) → Chn nx1 (nx1 x) r → (∀ w, w ∉ B j → nx1 w = nx' w) → (∀ (h2 : JIH) (nx2 : Nat → Option Nat), LmS K t (8 + 2 * n) hE h2 m D ea ka ta (nx2) bf af (some nT) (2 * n) (f') es ks vs sz mc (2 * th) lf hd tl → hc h2 t tA (jAR K 6 n f02) → ChO nx2 ((p ++ [x]).filter (lob n)) → ChO nx2 ((p ++ [x]).filter (fun k => !lob n k)) → Chn nx2 (nx1 x) r → (∀ w, w ∉ B j → nx2 w = nx' w) → J M h2 301 [some (.ref m), some (.ref tA), some (.int (nI n)), some (.int (nI th)), some (.int (nI (2 * n))), some (.int (nI (2 * th))), some (.ref nT), some (.int (nI j)), some (.ref (ea x)), some (va_rf (((p ++ [x]).filter (lob n)).head?.map ea)), some (va_rf ((lst none ((p ++ [x]).filter (lob n))).map ea)), some (va_rf (((p ++ [x]).filter (fun k => !lob n k)).head?.map ea)), some (va_rf ((lst none ((p ++ [x]).filter (fun k => !lob n k))).map ea)), some (va_rf ((nx1 x).map ea))] []) → J M h 235 [some (.ref m), some (.ref tA), some (.int (nI n)), some (.int (nI th)), some (.int (nI (2 * n))), some (.int (nI (2 * th))), some (.ref nT), some (.int (nI j)), some (.ref (ea x)), some (va_rf ((p.filter (lob n)).head?.map ea)), some (va_rf ((lst none (p.filter (lob n))).map ea)), some (va_rf ((p.filter (fun k => !lob n k)).head?.map ea)), some (va_rf ((lst none (p.filter (fun k => !lob n k))).map ea)), y13] [] := by
          intro r p x h nx1 y13 hBj S H cL cG hch hw cont
          have hxB : x ∈ B j := by rw [hBj]; exact List.mem_append_right _ List.mem_cons_self
          have hxD := (hmem x hxB).1
          have bx := hsh_lt (S.k hxD)
          have hnd : (p ++ x :: r).Nodup := hBj ▸ hbn
          have hnd' := List.nodup_append.mp hnd
          have hpr : ∀ w ∈ p, w ∉ r ∧ w ≠ x := fun w hw => ⟨fun z => hnd'.2.2 w hw w (List.mem_cons_of_mem _ z) rfl, fun z => hnd'.2.2 w hw x List.mem_cons_self z⟩
          refine J.aload8 X dJ1_resize_235 ?_
          refine J.getf X dJ1_resize_237 fl_J1_177_J34 ((S.e hxD)) rfl ?_
          refine J.astore13 X dJ1_resize_240 ?_
          refine J.aload8 X dJ1_resize_242 ?_
          refine J.getf X dJ1_resize_244 fl_J1_168_J34 ((S.e hxD)) rfl ?_
          refine J.iload2 X dJ1_resize_247 ?_
          refine J.iand X dJ1_resize_248 ?_
          refine J.topi (y := nI (if lob n x = true then 0 else n)) (by rw [hn]; exact bit_lo _ _) ?_
          have hpD : ∀ w ∈ p, w ∈ B j ∧ w ∈ D := fun w hw => ⟨by rw [hBj]; exact List.mem_append_left _ hw, (hmem w (by rw [hBj]; exact List.mem_append_left _ hw)).1⟩
          cases hlo : lob n x with
          | true =>
            rw [if_pos rfl]
            have eL : (p ++ [x]).filter (lob n) = p.filter (lob n) ++ [x] := by rw [List.filter_append]; simp [hlo]
            have eG : (p ++ [x]).filter (fun k => !lob n k) = p.filter (fun k => !lob n k) := by rw [List.filter_append]; simp [hlo]
            refine J.if_neN (tgt := 278) X dJ1_resize_249 (by decide) (by omega) (fun q9 => absurd q9 (by omega)) (fun _ => ?_)
            refine J.aload10 X dJ1_resize_252 ?_
            rw [eL, eG] at cont
            cases hl : lst none (p.filter (lob n)) with
            | none =>
              have hL0 := lst_none hl
              refine J.ifnonnullN (a := 0) (tgt := 264) X dJ1_resize_254 (by decide) ?_
              refine J.aload8 X dJ1_resize_257 ?_
              refine J.astore9 X dJ1_resize_259 ?_
              refine J.goto (tgt := 271) X dJ1_resize_261 (by decide) ?_
              refine J.aload8 X dJ1_resize_271 ?_
              refine J.astore10 X dJ1_resize_273 ?_
              refine J.goto (tgt := 301) X dJ1_resize_275 (by decide) ?_
              rw [hL0] at cont
              exact cont h nx1 S H (ChO.one _ _) cG hch hw
            | some z =>
              have hzL := List.mem_filter.mp (lst_in hl)
              have hzD := (hpD z hzL.1).2
              refine J.ifnonnullR (tgt := 264) X dJ1_resize_254 (by decide) ?_
              refine J.aload10 X dJ1_resize_264 ?_
              refine J.aload8 X dJ1_resize_266 ?_
              refine J.lm_nxX (k := z) (x := some x) X dJ1_resize_268 (pl_J1_177_J34 _) S hzD rfl (fun h3 S3 g3 => ?_)
              have H3 := g3 _ _ _ ((S.1.2.1 z hzD).2.apE H (fun q => by cases q)) H
              refine J.aload8 X dJ1_resize_271 ?_
              refine J.astore10 X dJ1_resize_273 ?_
              refine J.goto (tgt := 301) X dJ1_resize_275 (by decide) ?_
              have := cont h3 _ S3 H3 (cL.add (hnd'.1.filter _) (fun q => (hpr x (List.mem_filter.mp q).1).2 rfl) hl) (cG.congr fun w hw => va_up_ne _ _ (fun e => ?_)) (hch.congr fun w hw => va_up_ne _ _ (fun e => (hpr z hzL.1).1 (e ▸ hw))) (fun w hw2 => by rw [va_up_ne _ _ (fun e => hw2 (by rw [e]; exact (hpD z hzL.1).1))]; exact hw w hw2)
              · rw [lst_app, show (p.filter (lob n) ++ [x]).head? = (p.filter (lob n)).head? by
                  cases hq : p.filter (lob n) with
                  | nil => rw [hq] at hl; cases hl
                  | cons a b => rfl] at this
                exact this
              · have a1 := (List.mem_filter.mp hw).2
                rw [e, hzL.2] at a1
                cases a1
          | false =>
            rw [if_neg (by decide)]
            have eL : (p ++ [x]).filter (lob n) = p.filter (lob n) := by rw [List.filter_append]; simp [hlo]
            have eG : (p ++ [x]).filter (fun k => !lob n k) = p.filter (fun k => !lob n k) ++ [x] := by rw [List.filter_append]; simp [hlo]
            refine J.if_neN (tgt := 278) X dJ1_resize_249 (by decide) (by omega) (fun _ => ?_) (fun q9 => absurd q9 (by omega))
            refine J.aload12 X dJ1_resize_278 ?_
            rw [eL, eG] at cont
            cases hl : lst none (p.filter (fun k => !lob n k)) with
            | none =>
              have hL0 := lst_none hl
              refine J.ifnonnullN (a := 0) (tgt := 290) X dJ1_resize_280 (by decide) ?_
              refine J.aload8 X dJ1_resize_283 ?_
              refine J.astore11 X dJ1_resize_285 ?_
              refine J.goto (tgt := 297) X dJ1_resize_287 (by decide) ?_
              refine J.aload8 X dJ1_resize_297 ?_
              refine J.astore12 X dJ1_resize_299 ?_
              rw [hL0] at cont
              exact cont h nx1 S H cL (ChO.one _ _) hch hw
            | some z =>
              have hzL := List.mem_filter.mp (lst_in hl)
              have hzD := (hpD z hzL.1).2
              refine J.ifnonnullR (tgt := 290) X dJ1_resize_280 (by decide) ?_
              refine J.aload12 X dJ1_resize_290 ?_
              refine J.aload8 X dJ1_resize_292 ?_
              refine J.lm_nxX (k := z) (x := some x) X dJ1_resize_294 (pl_J1_177_J34 _) S hzD rfl (fun h3 S3 g3 => ?_)
              have H3 := g3 _ _ _ ((S.1.2.1 z hzD).2.apE H (fun q => by cases q)) H
              refine J.aload8 X dJ1_resize_297 ?_
              refine J.astore12 X dJ1_resize_299 ?_
              have := cont h3 _ S3 H3 (cL.congr fun w hw => va_up_ne _ _ (fun e => ?_)) (cG.add (hnd'.1.filter _) (fun q => (hpr x (List.mem_filter.mp q).1).2 rfl) hl) (hch.congr fun w hw => va_up_ne _ _ (fun e => (hpr z hzL.1).1 (e ▸ hw))) (fun w hw2 => by rw [va_up_ne _ _ (fun e => hw2 (by rw [e]; exact (hpD z hzL.1).1))]; exact hw w hw2)
              · rw [lst_app (p.filter (fun k => !lob n k)) [x] none, show (p.filter (fun k => !lob n k) ++ [x]).head? = (p.filter (fun k => !lob n k)).head? by
                  cases hq : p.filter (fun k => !lob n k) with
                  | nil => rw [hq] at hl; cases hl
                  | cons a b => rfl] at this
                exact this
              · have a1 := (List.mem_filter.mp hw).2
                have a2 := hzL.2
                rw [e] at a1
                rw [a1] at a2
                cases a2
        have inner : ∀ (r p : List Nat) (x : Nat) (h : JIH) (nx1 : Nat → Option Nat) (y13 : Option Value), B j = p ++ x :: r → LmS K t (8 + 2 * n) hE h m D ea ka ta (nx1) bf af (some nT) (2 * n) (f') es ks vs sz mc (2 * th) lf hd tl → hc h t tA (jAR K 6 n f02) → ChO nx1 (p.filter (lob n)) → ChO nx1 (p.filter (fun k => !lob n k)) → Chn nx1 (nx1 x) r → (∀ w, w ∉ B j → nx1 w = nx' w) → J M h 235 [some (.ref m), some (.ref tA), some (.int (nI n)), some (.int (nI th)), some (.int (nI (2 * n))), some (.int (nI (2 * th))), some (.ref nT), some (.int (nI j)), some (.ref (ea x)), some (va_rf ((p.filter (lob n)).head?.map ea)), some (va_rf ((lst none (p.filter (lob n))).map ea)), some (va_rf ((p.filter (fun k => !lob n k)).head?.map ea)), some (va_rf ((lst none (p.filter (fun k => !lob n k))).map ea)), y13] [] := by
          intro r
          induction r with
          | nil =>
            intro p x h nx1 y13 hBj S H cL cG hch hw
            refine stepx [] p x h nx1 y13 hBj S H cL cG hch hw (fun h2 nx2 S2 H2 cL2 cG2 hch2 hw2 => ?_)
            rw [show nx1 x = none from hch]
            refine J.aload13 X dJ1_resize_301 ?_
            refine J.dup X dJ1_resize_303 ?_
            refine J.astore8 X dJ1_resize_304 ?_
            refine J.ifnonnullN (a := 0) (tgt := 235) X dJ1_resize_306 (by decide) ?_
            exact f309 _ _ _ _ _ _ (by rw [hBj]) (by rw [hBj]) S2 H2 cL2 cG2 hw2
          | cons y r ih2 =>
            intro p x h nx1 y13 hBj S H cL cG hch hw
            refine stepx (y :: r) p x h nx1 y13 hBj S H cL cG hch hw (fun h2 nx2 S2 H2 cL2 cG2 hch2 hw2 => ?_)
            rw [show nx1 x = some y from hch.1]
            rw [show nx1 x = some y from hch.1] at hch2
            refine J.aload13 X dJ1_resize_301 ?_
            refine J.dup X dJ1_resize_303 ?_
            refine J.astore8 X dJ1_resize_304 ?_
            refine J.ifnonnullR (tgt := 235) X dJ1_resize_306 (by decide) ?_
            exact ih2 (p ++ [x]) y _ _ _ (by rw [hBj]; simp) S2 H2 cL2 cG2 hch2.2 hw2
        exact inner (y :: r) [] x _ _ _ hL S H (ChO.nil _) (ChO.nil _) hch.2 (fun _ _ => rfl)
