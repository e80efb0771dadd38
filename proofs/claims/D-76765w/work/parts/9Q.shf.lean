/-! SegmentedCache: shift -/
def sT : Nat → Nat
  | 0 => 1
  | 1 => 2
  | 2 => 0
  | 3 => 3
  | _ => 4
def sTy : Nat → FieldType
  | 0 => .byte
  | 1 => .short
  | 2 => .int
  | 3 => .long
  | _ => .boolean
theorem sT_ty (K : JK) : ∀ {so : Nat}, so ≤ 4 → (jtys K)[sT so]? = some (K.2.1 (sT so), sTy so)
  | 0, _ => rfl
  | 1, _ => rfl
  | 2, _ => rfl
  | 3, _ => rfl
  | 4, _ => rfl
  | n + 5, h => absurd h (by omega)
theorem sTy_ne : ∀ {a b : Nat}, a ≤ 4 → b ≤ 4 → a ≠ b → ((refKind (sTy a) != refKind (sTy b)) || (!refKind (sTy a) && sTy a != sTy b)) = true := by
  intro a b ha hb
  have : ∀ a, a < 5 → ∀ b, b < 5 → a ≠ b → ((refKind (sTy a) != refKind (sTy b)) || (!refKind (sTy a) && sTy a != sTy b)) = true := by decide
  exact this a (by omega) b (by omega)
theorem sTy_r {a : Nat} (ha : a ≤ 4) : refKind (sTy a) = false := by
  have : ∀ a, a < 5 → refKind (sTy a) = false := by decide
  exact this a (by omega)
theorem GV.arr {K : JK} {h : JIH} {tg a so n : Nat} {v : Nat → Int64} (gv : GV K h tg (some a) (some (so, n, v))) : so ≤ 4 ∧ n ≤ 60 ∧ ∃ x : vp_A, hget h a = some (.inl (K.2.1 (sT so), x)) ∧ x.1 = n := by
  obtain ⟨so', n', v', e, hn, hv⟩ := gv
  cases e
  rcases hv with ⟨rfl, f, c, -⟩ | ⟨rfl, f, c, -⟩ | ⟨rfl, f, c, -⟩ | ⟨rfl, f, c, -⟩ | ⟨rfl, f, c, -⟩
  · exact ⟨by decide, hn, _, c.1, rfl⟩
  · exact ⟨by decide, hn, _, c.1, rfl⟩
  · exact ⟨by decide, hn, _, c.1, rfl⟩
  · exact ⟨by decide, hn, _, c.1, rfl⟩
  · exact ⟨by decide, hn, _, c.1, rfl⟩
def gshOk (za zb : Nat) (i j n : Int32) : Prop := ∃ i' j' n', i = nI i' ∧ j = nI j' ∧ n = nI n' ∧ i' + n' ≤ za ∧ j' + n' ≤ zb
theorem nI_of0 {x : Int32} (h : ¬ x < 0) : x = nI x.toInt.toNat ∧ x.toInt = (x.toInt.toNat : Int) := by
  have h0 : 0 ≤ x.toInt := by
    have := Int32.not_lt.mp h
    simpa using Int32.le_iff_toInt_le.mp this
  have h1 := Int32.toInt_lt x
  refine ⟨Int32.toInt_inj.mp ?_, by omega⟩
  rw [nI_toInt (by omega)]
  omega
theorem gsh_fault {ty : FieldType} {za zb : Nat} {i j n : Int32} (h : ¬ gshOk za zb i j n) : ∃ what, copyFault ty ty za zb i j n = some what := by
  unfold copyFault
  by_cases h1 : i < 0
  · rw [if_pos h1]; exact ⟨_, rfl⟩
  by_cases h2 : j < 0
  · rw [if_neg h1, if_pos h2]; exact ⟨_, rfl⟩
  by_cases h3 : n < 0
  · rw [if_neg h1, if_neg h2, if_pos h3]; exact ⟨_, rfl⟩
  by_cases h4 : i.toInt + n.toInt > za
  · rw [if_neg h1, if_neg h2, if_neg h3, if_pos h4]; exact ⟨_, rfl⟩
  by_cases h5 : j.toInt + n.toInt > zb
  · rw [if_neg h1, if_neg h2, if_neg h3, if_neg h4, if_pos h5]; exact ⟨_, rfl⟩
  have e1 := nI_of0 h1
  have e2 := nI_of0 h2
  have e3 := nI_of0 h3
  exact absurd ⟨_, _, _, e1.1, e2.1, e3.1, by omega, by omega⟩ h
def gshift (g : GA) (t i o j n r : Int32) (g' : GA) : Prop := (¬ (((0 : Int32) ≤ t ∧ t ≤ 5) ∧ ((0 : Int32) ≤ o ∧ o ≤ 5)) ∧ r = -1 ∧ g' = g) ∨ ∃ a b, a < 6 ∧ b < 6 ∧ t = nI a ∧ o = nI b ∧ (((g.tp a = none ∨ g.tp b = none) ∧ r = -11 ∧ g' = g) ∨
  ∃ sa za va sb zb vb, g.tp a = some (sa, za, va) ∧ g.tp b = some (sb, zb, vb) ∧ ((sa ≠ sb ∧ r = -12 ∧ g' = g) ∨ (sa = sb ∧ ((¬ gshOk za zb i j n ∧ r = -13 ∧ g' = g) ∨ ∃ i' j' n', i = nI i' ∧ j = nI j' ∧ n = nI n' ∧ i' + n' ≤ za ∧ j' + n' ≤ zb ∧ r = n ∧ g' = g.wtp (upT g.tp b (some (sb, zb, va_cpy va vb i' j' n')))))))
theorem cpy_map {f g : Nat → Int32} {va vb : Nat → Int64} {za zb i j n : Nat} (hf : ∀ k, k < za → va k = (f k).toInt64) (hg : ∀ k, k < zb → vb k = (g k).toInt64) (h1 : i + n ≤ za) : ∀ k, k < zb → va_cpy va vb i j n k = (va_cpy f g i j n k).toInt64 := by
  intro k hk
  unfold va_cpy
  by_cases q : j ≤ k ∧ k < j + n
  · rw [if_pos q, if_pos q]; exact hf _ (by omega)
  · rw [if_neg q, if_neg q]; exact hg _ hk
theorem cpy_mapL {f g va vb : Nat → Int64} {za zb i j n : Nat} (hf : ∀ k, k < za → va k = f k) (hg : ∀ k, k < zb → vb k = g k) (h1 : i + n ≤ za) : ∀ k, k < zb → va_cpy va vb i j n k = va_cpy f g i j n k := by
  intro k hk
  unfold va_cpy
  by_cases q : j ≤ k ∧ k < j + n
  · rw [if_pos q, if_pos q]; exact hf _ (by omega)
  · rw [if_neg q, if_neg q]; exact hg _ hk
theorem cpy_fit {f g : Nat → Int32} {ty : FieldType} {za zb i j n : Nat} (hf : ∀ k, k < za → fits ty (.int (f k)) = true) (hg : ∀ k, k < zb → fits ty (.int (g k)) = true) (h1 : i + n ≤ za) : ∀ k, k < zb → fits ty (.int (va_cpy f g i j n k)) = true := by
  intro k hk
  unfold va_cpy
  by_cases q : j ≤ k ∧ k < j + n
  · rw [if_pos q]; exact hf _ (by omega)
  · rw [if_neg q]; exact hg _ hk
set_option maxHeartbeats 1000000 in
theorem x_shift {K : JK} {l : Launch} {hE : JIH} {o : Nat} {p : GP} {g : GA} {tz tzi : Nat} (F : JF K) (hl : l.stackTraces = false) (S : GX K hE o p g tz tzi) {t i u j n r : Int32} {g' : GA} (hf : gshift g t i u j n r g') (rm : RM hE tz 500) :
    Ct K l yX0_shift wX0_shift 171 [.ref o, .int t, .int i, .int u, .int j, .int n] hE (jRi (fun r0 h' => r0 = r ∧ GX K h' o p g' tz tzi ∧ hres h' ≤ hres hE + 440 ∧ Fr n5 hE h')) jNo := by
  have so := S.o
  obtain ⟨ta, D, S1⟩ := S.cc
  have r8 := S1.rm8 rm
  clear S1
  have gw := S.gw
  obtain ⟨⟨ft, ctp, hft⟩, hw⟩ := id gw
  refine st_X0_shift (ls := [some (.ref o), some (.int t), some (.int i), some (.int u), some (.int j), some (.int n), none]) F rfl (body := fun M X => ?_)
  have bad : r = -1 → g' = g → J M hE 14 [some (.ref o), some (.int t), some (.int i), some (.int u), some (.int j), some (.int n), none] [] := by
    intro e1 e2
    subst e1 e2
    refine J.iconst (v := -1) X dX0_shift_14 (by decide) ?_
    refine J.ireturn X dX0_shift_15 (jRi.of ?_)
    exact ⟨rfl, S, by omega, Fr.rf _ _⟩
  refine J.iload1 X dX0_shift_0 ?_
  refine J.callSi X dX0_shift_1 lk_X0_315 ce_X0_isTape (x_isTape F t) (by decide) rfl (fun r0 h2 e _ => ?_)
  obtain ⟨rfl, rfl⟩ := e
  refine J.if_eqB (tgt := 14) X dX0_shift_4 (by decide) (fun c1 => ?_) (fun c1 => ?_)
  · skip
    rcases hf with ⟨-, e1, e2⟩ | ⟨a, b, ha, hb, rfl, rfl, -⟩
    · exact bad e1 e2
    · exact absurd ⟨nI_le (a := 0) (Nat.zero_le _) (by omega), nI_le (b := 5) (by omega) (by decide)⟩ c1
  refine J.iload3 X dX0_shift_7 ?_
  refine J.callSi X dX0_shift_8 lk_X0_315 ce_X0_isTape (x_isTape F u) (by decide) rfl (fun r0 h2 e _ => ?_)
  obtain ⟨rfl, rfl⟩ := e
  by_cases c2 : (0 : Int32) ≤ u ∧ u ≤ 5
  case neg =>
    refine J.if_neB (tgt := 16) X dX0_shift_11 (by decide) (fun q9 => absurd q9 (c2)) (fun _ => ?_)
    rcases hf with ⟨-, e1, e2⟩ | ⟨a, b, ha, hb, rfl, rfl, -⟩
    · exact bad e1 e2
    · exact absurd ⟨nI_le (a := 0) (Nat.zero_le _) (by omega), nI_le (b := 5) (by omega) (by decide)⟩ c2
  rcases hf with ⟨q, -⟩ | ⟨a, b, ha, hb, rfl, rfl, hf⟩
  · exact absurd ⟨c1, c2⟩ q
  clear bad
  refine J.if_neB (tgt := 16) X dX0_shift_11 (by decide) (fun _ => ?_) (fun q9 => absurd q9 (fun z => z c2))
  obtain ⟨ra, cta, gva⟩ := hw a ha
  obtain ⟨rb, ctb, gvb⟩ := hw b hb
  have hfa := hft a ha
  have hfb := hft b hb
  -- thrown: what is left
  have thr : ∀ (zs : List Nat), 8 * zs.length + zs.sum ≤ 440 → GX K (hjk hE zs) o p g tz tzi ∧ hres (hjk hE zs) ≤ hres hE + 440 ∧ Fr n5 hE (hjk hE zs) := by
    intro zs hz
    have f1 : Fr (fun z => z = 9) hE (hjk hE zs) := Fr.jk _ _ _
    exact ⟨S.tpc f1 (fun z hz => Or.inl hz) (gw.fr f1 (fun z a b => by omega)), by rw [hjk_res]; omega, f1.mono (fun z hz => by show z ≠ 5; omega)⟩
  refine J.aload0 X dX0_shift_16 ?_
  refine J.getf X dX0_shift_17 fl_X0_55_X0 (so.1) rfl ?_
  refine J.iload1 X dX0_shift_20 ?_
  refine J.aald (t := 9) X dX0_shift_21 ctp.1 rfl rfl ha ?_
  rw [hfa]
  refine J.getf X dX0_shift_22 fl_X0_318_X4 (cta.1) rfl ?_
  refine J.iload2 X dX0_shift_25 ?_
  refine J.aload0 X dX0_shift_26 ?_
  refine J.getf X dX0_shift_27 fl_X0_55_X0 (so.1) rfl ?_
  refine J.iload3 X dX0_shift_30 ?_
  refine J.aald (t := 9) X dX0_shift_31 ctp.1 rfl rfl hb ?_
  rw [hfb]
  refine J.getf X dX0_shift_32 fl_X0_318_X4 (ctb.1) rfl ?_
  refine J.iload4 X dX0_shift_35 ?_
  refine J.iload5 X dX0_shift_37 ?_
  by_cases hnull : ra = none ∨ rb = none
  · have hR : r = -11 ∧ g' = g := by
      rcases hf with ⟨-, e1, e2⟩ | ⟨_, _, _, _, _, _, e1, e2, -⟩
      · exact ⟨e1, e2⟩
      · rcases hnull with rfl | rfl
        · rw [show g.tp a = none from gva] at e1; cases e1
        · rw [show g.tp b = none from gvb] at e2; cases e2
    obtain ⟨rfl, rfl⟩ := hR
    refine J.copyT X dX0_shift_39 q2643 (jref_rf _) (jref_rf _) (cp_null (jref_rf _) (jref_rf _) (by rcases hnull with rfl | rfl; exact Or.inl rfl; exact Or.inr rfl)) (by decide) (JNN.goN X hl (ex_Npe F) (by decide) (by omega) (fun zs x z1 z2 => ?_))
    refine JT.catch (a := 16) (b := 44) (t := 45) (ct := 313) X [] [(16, 44, 50, 367), (16, 44, 55, 369)] rfl (fun z hz => by cases hz) (by decide) (by decide) q2602 q1926 ?_
    refine J.astore6 X dX0_shift_45 ?_
    refine J.bipush (v := -11) X dX0_shift_47 (by decide) ?_
    refine J.ireturn X dX0_shift_49 (jRi.of ?_)
    exact ⟨rfl, thr zs (by omega)⟩
  cases ra with
  | none => exact absurd (Or.inl rfl) hnull
  | some x =>
  cases rb with
  | none => exact absurd (Or.inr rfl) hnull
  | some y =>
  clear hnull
  rcases hf with ⟨h1 | h1, -⟩ | ⟨sa, za, va, sb, zb, vb, ea, eb, hf⟩
  · obtain ⟨_, _, _, e', -⟩ := gva
    rw [h1] at e'; cases e'
  · obtain ⟨_, _, _, e', -⟩ := gvb
    rw [h1] at e'; cases e'
  rw [ea] at gva
  rw [eb] at gvb
  obtain ⟨sa4, za6, xa, hxa, nxa⟩ := gva.arr
  obtain ⟨sb4, zb6, xb, hxb, nxb⟩ := gvb.arr
  rcases hf with ⟨hne, rfl, rfl⟩ | ⟨rfl, hf⟩
  · refine J.copyT X dX0_shift_39 q2643 rfl rfl (cp_types F (sT_ty K sa4) (sT_ty K sb4) hxa hxb (sTy_ne sa4 sb4 hne)) (by decide) (JNN.go (nb := 400) (names := ["java/lang/RuntimeException", "java/lang/Exception"]) X hl (by decide) (by decide) (by decide) (by decide) (by decide) (ex_Ase F) (tx_ase _ _).1 (tx_ase _ _).2 (by decide) (by decide) (by omega) (fun zs x z1 z2 => ?_))
    refine JT.catch (a := 16) (b := 44) (t := 50) (ct := 367) X [(16, 44, 45, 313)] [(16, 44, 55, 369)] rfl (fun z hz => ?_) (by decide) (by decide) q2701 q2713 ?_
    · cases List.mem_singleton.mp hz
      exact Or.inr ⟨by decide, _, q2602, nx_AseNpe F⟩
    refine J.astore6 X dX0_shift_50 ?_
    refine J.bipush (v := -12) X dX0_shift_52 (by decide) ?_
    refine J.ireturn X dX0_shift_54 (jRi.of ?_)
    exact ⟨rfl, thr zs (by omega)⟩
  rcases hf with ⟨hno, rfl, rfl⟩ | ⟨i', j', n', rfl, rfl, rfl, h1, h2, rfl, rfl⟩
  · obtain ⟨what, hwt⟩ := gsh_fault (ty := sTy sa) hno
    have hwt' : copyFault (sTy sa) (sTy sa) xa.1 xb.1 i j n = some what := by rw [nxa, nxb]; exact hwt
    have htx := tx_aio za6 zb6 hwt
    refine J.copyT X dX0_shift_39 q2643 rfl rfl (cp_bounds F (sT_ty K sa4) hxa hxb (sTy_r sa4) hwt') (by decide) (JNN.go (nb := 400) (names := ["java/lang/IndexOutOfBoundsException", "java/lang/RuntimeException", "java/lang/Exception"]) X hl (by decide) (by decide) (by decide) (by decide) (by decide) (ex_Ioo F) htx.1 htx.2 (by decide) (by decide) (by omega) (fun zs x z1 z2 => ?_))
    refine JT.catch (a := 16) (b := 44) (t := 55) (ct := 369) X [(16, 44, 45, 313), (16, 44, 50, 367)] [] rfl (fun z hz => ?_) (by decide) (by decide) q2715 q3032 ?_
    · rcases List.mem_cons.mp hz with rfl | hz
      · exact Or.inr ⟨by decide, _, q2602, nx_IooNpe F⟩
      · cases List.mem_singleton.mp hz
        exact Or.inr ⟨by decide, _, q2701, nx_IooAse F⟩
    refine J.astore6 X dX0_shift_55 ?_
    refine J.bipush (v := -13) X dX0_shift_57 (by decide) ?_
    refine J.ireturn X dX0_shift_59 (jRi.of ?_)
    exact ⟨rfl, thr zs (by omega)⟩
  -- copied
  clear hxa nxa hxb nxb thr
  have fin : ∀ (e1 e2 : va_E), hc hE (48 + b) y e1 → esz e2 = esz e1 → GV K (hset hE y e2) (48 + b) (some y) (some (sa, zb, va_cpy va vb i' j' n')) → J M (hset hE y e2) 42 [some (.ref o), some (.int (nI a)), some (.int (nI i')), some (.int (nI b)), some (.int (nI j')), some (.int (nI n')), none] [] := by
    intro e1 e2 c1 he gv2
    have f1 : Fr (fun z => z = 48 + b) hE (hset hE y e2) := Fr.set c1 rfl
    have r1 : hres (hset hE y e2) = hres hE := hres_setS c1 he
    refine J.iload5 X dX0_shift_42 ?_
    refine J.ireturn X dX0_shift_44 (jRi.of ?_)
    exact ⟨rfl, S.tpc f1 (fun z hz => by omega) (gw.up hb f1 (fun z hz => by omega) (ctb.fr f1 (by omega)) gv2), by omega, f1.mono (fun z hz => by show z ≠ 5; omega)⟩
  obtain ⟨_, _, _, e0, -, hva⟩ := gva
  cases e0
  obtain ⟨_, _, _, e0, -, hvb⟩ := gvb
  cases e0
  rcases hva with ⟨rfl, f, ca, hva⟩ | ⟨rfl, f, ca, hva⟩ | ⟨rfl, f, ca, hva⟩ | ⟨rfl, f, ca, hva⟩ | ⟨rfl, f, ca, hva⟩
  · rcases hvb with ⟨-, f2, cb, hvb⟩ | ⟨e, -⟩ | ⟨e, -⟩ | ⟨e, -⟩ | ⟨e, -⟩
    · refine J.copyI (t := 1) (ty := .byte) X dX0_shift_39 q2643 ca.1 cb.1 rfl rfl (fun k hk => (hva _ (by omega)).2) h1 h2 (by omega) (by omega) (by decide) ?_
      exact fin _ _ cb (by rfl) ⟨0, zb, _, rfl, zb6, Or.inl ⟨rfl, _, cb.same _, fun k hk => ⟨cpy_map (fun k hk => (hva k hk).1) (fun k hk => (hvb k hk).1) h1 k hk, cpy_fit (fun k hk => (hva k hk).2) (fun k hk => (hvb k hk).2) h1 k hk⟩⟩⟩
    · cases e
    · cases e
    · cases e
    · cases e
  · rcases hvb with ⟨e, -⟩ | ⟨-, f2, cb, hvb⟩ | ⟨e, -⟩ | ⟨e, -⟩ | ⟨e, -⟩
    · cases e
    · refine J.copyI (t := 2) (ty := .short) X dX0_shift_39 q2643 ca.1 cb.1 rfl rfl (fun k hk => (hva _ (by omega)).2) h1 h2 (by omega) (by omega) (by decide) ?_
      exact fin _ _ cb (by rfl) ⟨1, zb, _, rfl, zb6, Or.inr (Or.inl ⟨rfl, _, cb.same _, fun k hk => ⟨cpy_map (fun k hk => (hva k hk).1) (fun k hk => (hvb k hk).1) h1 k hk, cpy_fit (fun k hk => (hva k hk).2) (fun k hk => (hvb k hk).2) h1 k hk⟩⟩)⟩
    · cases e
    · cases e
    · cases e
  · rcases hvb with ⟨e, -⟩ | ⟨e, -⟩ | ⟨-, f2, cb, hvb⟩ | ⟨e, -⟩ | ⟨e, -⟩
    · cases e
    · cases e
    · refine J.copyI (t := 0) (ty := .int) X dX0_shift_39 q2643 ca.1 cb.1 rfl rfl (fun k hk => rfl) h1 h2 (by omega) (by omega) (by decide) ?_
      exact fin _ _ cb (by rfl) ⟨2, zb, _, rfl, zb6, Or.inr (Or.inr (Or.inl ⟨rfl, _, cb.same _, cpy_map hva hvb h1⟩))⟩
    · cases e
    · cases e
  · rcases hvb with ⟨e, -⟩ | ⟨e, -⟩ | ⟨e, -⟩ | ⟨-, f2, cb, hvb⟩ | ⟨e, -⟩
    · cases e
    · cases e
    · cases e
    · refine J.copyL X dX0_shift_39 q2643 ca.1 cb.1 h1 h2 (by omega) (by omega) (by decide) ?_
      exact fin _ _ cb (by rfl) ⟨3, zb, _, rfl, zb6, Or.inr (Or.inr (Or.inr (Or.inl ⟨rfl, _, cb.same _, cpy_mapL hva hvb h1⟩)))⟩
    · cases e
  · rcases hvb with ⟨e, -⟩ | ⟨e, -⟩ | ⟨e, -⟩ | ⟨e, -⟩ | ⟨-, f2, cb, hvb⟩
    · cases e
    · cases e
    · cases e
    · cases e
    · refine J.copyI (t := 4) (ty := .boolean) X dX0_shift_39 q2643 ca.1 cb.1 rfl rfl (fun k hk => (hva _ (by omega)).2) h1 h2 (by omega) (by omega) (by decide) ?_
      exact fin _ _ cb (by rfl) ⟨4, zb, _, rfl, zb6, Or.inr (Or.inr (Or.inr (Or.inr ⟨rfl, _, cb.same _, fun k hk => ⟨cpy_map (fun k hk => (hva k hk).1) (fun k hk => (hvb k hk).1) h1 k hk, cpy_fit (fun k hk => (hva k hk).2) (fun k hk => (hvb k hk).2) h1 k hk⟩⟩)))⟩
