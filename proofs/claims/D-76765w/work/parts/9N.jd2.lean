/-! SegmentedCache: judge -/
theorem x_judge {K : JK} {l : Launch} {hE : JIH} {o : Nat} {p : GP} {g : GA} {tz tzi : Nat} (F : JF K) (hl : l.stackTraces = false) (S : GX K hE o p g tz tzi) {t i r : Int32} (hf : gjudge g t i r) (rm : RM hE tz 1000) :
    Ct K l yX0_judge wX0_judge 173 [.ref o, .int t, .int i] hE (jRi (fun r0 h' => r0 = r ∧ GX K h' o p g tz tzi ∧ hres h' ≤ hres hE + 950 ∧ Fr n5 hE h')) jNo := by
  have so := S.o
  obtain ⟨ta, D, S1⟩ := S.cc
  have r8 := S1.rm8 rm
  clear S1
  have gw := S.gw
  obtain ⟨⟨ft, ctp, hft⟩, hw⟩ := id gw
  refine st_X0_judge (ls := [some (.ref o), some (.int t), some (.int i), none]) F rfl (body := fun M X => ?_)
  refine J.iload1 X dX0_judge_0 ?_
  refine J.callSi X dX0_judge_1 lk_X0_315 ce_X0_isTape (x_isTape F t) (by decide) rfl (fun r0 h2 e _ => ?_)
  obtain ⟨rfl, rfl⟩ := e
  rcases hf with ⟨q, rfl⟩ | ⟨j, hj, rfl, hf⟩
  · skip
    refine J.if_neB (tgt := 9) X dX0_judge_4 (by decide) (fun q9 => absurd q9 (q)) (fun _ => ?_)
    refine J.iconst (v := -1) X dX0_judge_7 (by decide) ?_
    refine J.ireturn X dX0_judge_8 (jRi.of ?_)
    exact ⟨rfl, S, by omega, Fr.rf _ _⟩
  obtain ⟨rw, ct, gv⟩ := hw j hj
  have hfj := hft j hj
  refine J.if_neB (tgt := 9) X dX0_judge_4 (by decide) (fun _ => ?_) (fun q9 => absurd q9 (fun z => z ⟨nI_le (a := 0) (Nat.zero_le _) (by omega), nI_le (b := 5) (by omega) (by decide)⟩))
  refine J.aload0 X dX0_judge_9 ?_
  refine J.aload0 X dX0_judge_10 ?_
  refine J.getf X dX0_judge_11 fl_X0_55_X0 (so.1) rfl ?_
  refine J.iload1 X dX0_judge_14 ?_
  refine J.aald (t := 9) X dX0_judge_15 ctp.1 rfl rfl hj ?_
  rw [hfj]
  refine J.getf X dX0_judge_16 fl_X0_318_X4 (ct.1) rfl ?_
  have ok : (∀ so m vv, g.tp j = some (so, m, vv) → so = 1) → r = gfo (g.tp j) i (g.x.1.1 1) 0 → J M hE 22 [some (.ref o), some (.int (nI j)), some (.int i), none] [va_rf rw, .ref o] := by
    intro h1 e1
    subst e1
    refine J.iload2 X dX0_judge_22 ?_
    refine J.callVHi X dX0_judge_23 lk_X0_324_X0 ce_X0_firstOther (x_firstOther F hl S hj gv h1 (rm.mono (by omega))) (by decide) rfl so.1 (As := [va_rf rw, .int i]) rfl (fun r h' z _ => ?_)
    obtain ⟨rfl, S2, r2, f2⟩ := z
    refine J.ireturn X dX0_judge_26 (jRi.of ?_)
    exact ⟨rfl, S2, by omega, f2⟩
  have bad : r = -12 → ∀ (a : Nat) (x : Nat) (zs : List Nat), rw = some a → zs.length ≤ 3 → zs.sum ≤ 910 → JT M (hjk hE zs) 19 [some (.ref o), some (.int (nI j)), some (.int i), none] x "java/lang/ClassCastException" := by
    intro e1 a x zs ea z1 z2
    subst e1
    refine JT.catch (a := 9) (b := 26) (t := 27) (ct := 328) X [] [] rfl (fun z hz => by cases hz) (by decide) (by decide) q2580 q2592 ?_
    refine J.astore3 X dX0_judge_27 ?_
    refine J.bipush (v := -12) X dX0_judge_28 (by decide) ?_
    refine J.ireturn X dX0_judge_30 (jRi.of ?_)
    have f1 : Fr (fun z => z = 9) hE (hjk hE zs) := Fr.jk _ _ _
    exact ⟨rfl, S.tpc f1 (fun z hz => Or.inl hz) (gw.fr f1 (fun z a b => by omega)), by rw [hjk_res]; omega, f1.mono (fun z hz => by show z ≠ 5; omega)⟩
  cases rw with
  | none =>
    have et : g.tp j = none := gv
    rcases hf with ⟨_, _, _, e, -⟩ | ⟨h1, e1⟩
    · rw [et] at e; cases e
    refine J.castN X dX0_judge_19 ?_
    exact ok h1 e1
  | some a =>
  obtain ⟨so', m, vv, et, hm, hv⟩ := id gv
  by_cases h1 : so' = 1
  · have h2 : ∀ so m vv, g.tp j = some (so, m, vv) → so = 1 := fun s2 m2 v2 e2 => by rw [et] at e2; cases e2; exact h1
    have e1 : r = gfo (g.tp j) i (g.x.1.1 1) 0 := by
      rcases hf with ⟨_, _, _, e, n1, -⟩ | ⟨-, e1⟩
      · exact absurd (h2 _ _ _ e) n1
      · exact e1
    rcases hv with ⟨e, -⟩ | ⟨-, f, ca, hv⟩ | ⟨e, -⟩ | ⟨e, -⟩ | ⟨e, -⟩
    · omega
    rotate_left
    · omega
    · omega
    · omega
    refine J.castAY (t := 2) (ty := .short) X dX0_judge_19 cl_X0_322 rfl ra_S ca.1 ?_
    exact ok h2 e1
  · have e1 : r = -12 := by
      rcases hf with ⟨_, _, _, e, n1, e1⟩ | ⟨h2, -⟩
      · exact e1
      · exact absurd (h2 _ _ _ et) h1
    have go : ∀ text, (text == notModelled) = false → (stringBytes (stringToUtf16 text)).size ≤ 900 → JN M hE 19 [some (.ref o), some (.int (nI j)), some (.int i), none] [.ref a, .ref o] "java/lang/ClassCastException" text := by
      intro text t1 t2
      exact JN.go (nb := 900) (names := ["java/lang/RuntimeException", "java/lang/Exception"]) X hl (by decide) (by decide) (by decide) (by decide) (by decide) (ex_Cce F) t1 t2 (by decide) (by decide) (by omega) (fun zs x z1 z2 => bad e1 a x zs rfl z1 z2)
    rcases hv with ⟨-, f, ca, -⟩ | ⟨e, -⟩ | ⟨-, f, ca, -⟩ | ⟨-, f, ca, -⟩ | ⟨-, f, ca, -⟩
    · exact J.castAN (t := 1) (ty := .byte) X dX0_judge_19 cl_X0_322 rfl ra_B (nc_BS F) ca.1 (by decide +kernel) (by decide) (by decide +kernel) (by decide) go
    · exact absurd e h1
    · exact J.castAN (t := 0) (ty := .int) X dX0_judge_19 cl_X0_322 rfl ra_I (nc_IS F) ca.1 (by decide +kernel) (by decide) (by decide +kernel) (by decide) go
    · exact J.castAN (t := 3) (ty := .long) X dX0_judge_19 cl_X0_322 rfl ra_J (nc_JS F) ca.1 (by decide +kernel) (by decide) (by decide +kernel) (by decide) go
    · exact J.castAN (t := 4) (ty := .boolean) X dX0_judge_19 cl_X0_322 rfl ra_Z (nc_ZS F) ca.1 (by decide +kernel) (by decide) (by decide +kernel) (by decide) go
