/-! a copy of a plan -/
set_option maxRecDepth 100000
/-- the loop of Plan.copy: what holds behind i rounds -/
def cpI (Γ : Gm) (w : Wd) (S : Sh) (P : Pl) (p1 s1 b1 d1 q5 i : Nat) (w1 : Wd) : Prop :=
  w1 p1 = some (true, .inr (2, [.ref S.pr, .ref S.wv, .ref s1, .ref b1, .int 0, .int 0])) ∧ w1 s1 = some (true, .inl (Γ.2.1 0, 7, .inl set0)) ∧ w1 b1 = some (true, .inr (11, [.int (nI i), .ref d1, .int (nI i)])) ∧
  (∃ l0 : Int32, w1 q5 = some (true, .inr (13, [.int (nI i), .int l0, .int P.bm, .ref P.ba]))) ∧ (∀ a q, w a = some q → w1 a = some q) ∧
  ∃ g : Nat → Option Nat, w1 d1 = some (true, .inl (Γ.2.1 6, 20, .inr (.inr (.inr (.inr g))))) ∧ (∀ j, j < i → ∃ v, g j = some v ∧ w1 v = some (true, bcell (P.bx j)) ∧ w v = none) ∧ ∀ j k, j < i → k < i → g j = g k → j = k
theorem c2_X2_copy : CG yX2_copy cX2_copy 4 (Option.some (Jvm.ClassFile.FieldType.object "BakeryPlan$Plan")) 0 := ⟨q912, q124, q914, by decide +kernel⟩
theorem m2_X2_copy {Γ : Gm} {l : Launch} {w : Wd} (hg : gC Γ) {S : Sh} {P : Pl} {p : Nat} (hO : plO Γ S p P w)  : M0 Γ l yX2_copy (ws_ yX2_copy cX2_copy 4 (Option.some (Jvm.ClassFile.FieldType.object "BakeryPlan$Plan"))) (rl 5 25 100) 25 100 [.ref (p)] w (fun v9 w9 => ∃ (p1 : Nat) (P1 : Pl), v9 = some (.ref p1) ∧ plO Γ S p1 P1 w9 ∧ P1.nb = P.nb ∧ P1.bx = P.bx ∧ (∀ j, j < 7 → P1.sf j = P.sf j) ∧ P1.wc = P.wc ∧ P1.po = P.po ∧ (∀ a, plA p1 P1 a → w a = none) ∧ ∀ a q, w a = some q → w9 a = some q) := by
  refine M0.of (lv := [some (.ref (p)), none, none, none]) (by decide) (Nat.le_of_ble_eq_true rfl) 3 rfl rfl ?_
  intro X hX hR hl hG hnm
  subst hl; subst hG
  have h20 := hO.2.2.2.2.1
  refine v_new (fs := [.null, .null, .null, .null, .int (0), .int (0)]) hX dX2_copy_0 in_X2 tyX2 tyX2_ok q915 q169 q124 cl_2 (by decide) (Nat.le_of_ble_eq_true rfl) (Nat.le_of_ble_eq_true rfl) (fun q1 hq1 => ?_)
  refine v_dup hX dX2_copy_3 rfl ?_
  refine v_aload_n hX dX2_copy_4 rfl ?_
  refine v_get hX dX2_copy_5 in_X2 cl_2 0 (by decide) q523 (fun _ h => h) ((wup_n (wne hO.1 hq1)).trans hO.1) rfl ?_
  refine v_aload_n hX dX2_copy_8 rfl ?_
  refine v_get hX dX2_copy_9 in_X2 cl_2 1 (by decide) q526 (fun _ h => h) ((wup_n (wne hO.1 hq1)).trans hO.1) rfl ?_
  refine v_cI hX rfl dX2_copy_12 q916 c2_X2_init rfl (m2_X2_init hg wup_s) rfl ⟨rfl, rfl⟩ ⟨Nat.le_of_ble_eq_true rfl, Nat.le_of_ble_eq_true rfl⟩ rfl (Nat.le_of_ble_eq_true rfl) ⟨Nat.le_of_ble_eq_true rfl, Nat.le_of_ble_eq_true rfl⟩ (fun v w12 h => ?_)
  obtain ⟨rfl, s1, b1, d1, hs1, hb1, hd1, hsb, hsd, hbd, rfl⟩ := h
  refine V.at rfl rfl (st2 := _ :: _) rfl ?_
  refine v_astore_n (lv' := [_, _, _, _]) hX dX2_copy_15 (Nat.le_of_ble_eq_true rfl) rfl rfl ?_
  refine v_aload_n hX dX2_copy_16 rfl ?_
  refine v_get hX dX2_copy_17 in_X2 cl_2 3 (by decide) q534 (fun _ h => h) ((wup_n (wne hO.1 hq1)).trans ((wup_n (wne ((wup_n (wne hO.1 hq1)).trans hO.1) hd1)).trans ((wup_n (wne ((wup_n (wne hO.1 hq1)).trans hO.1) hb1)).trans ((wup_n (wne ((wup_n (wne hO.1 hq1)).trans hO.1) hs1)).trans ((wup_n (wne hO.1 hq1)).trans hO.1))))) rfl ?_
  refine v_cV hX rfl dX2_copy_20 q917 c2_J2_iterator q919 rfl cl_11 ((wup_n (wne hO.2.2.1 hq1)).trans ((wup_n (wne ((wup_n (wne hO.2.2.1 hq1)).trans hO.2.2.1) hd1)).trans ((wup_n (wne ((wup_n (wne hO.2.2.1 hq1)).trans hO.2.2.1) hb1)).trans ((wup_n (wne ((wup_n (wne hO.2.2.1 hq1)).trans hO.2.2.1) hs1)).trans ((wup_n (wne hO.2.2.1 hq1)).trans hO.2.2.1))))) (m2_J2_iterator hg ((wup_n (wne hO.2.2.1 hq1)).trans ((wup_n (wne ((wup_n (wne hO.2.2.1 hq1)).trans hO.2.2.1) hd1)).trans ((wup_n (wne ((wup_n (wne hO.2.2.1 hq1)).trans hO.2.2.1) hb1)).trans ((wup_n (wne ((wup_n (wne hO.2.2.1 hq1)).trans hO.2.2.1) hs1)).trans ((wup_n (wne hO.2.2.1 hq1)).trans hO.2.2.1)))))) rfl ⟨rfl, rfl⟩ ⟨Nat.le_of_ble_eq_true rfl, Nat.le_of_ble_eq_true rfl⟩ rfl (Nat.le_of_ble_eq_true rfl) ⟨Nat.le_of_ble_eq_true rfl, Nat.le_of_ble_eq_true rfl⟩ (fun v w20 h => ?_)
  obtain ⟨q2, hq2, rfl, rfl⟩ := h
  refine V.at rfl rfl (st2 := [_]) rfl ?_
  refine v_astore_n (lv' := [_, _, _, _]) hX dX2_copy_23 (Nat.le_of_ble_eq_true rfl) rfl rfl ?_
  have hp1n : w q1 = none := hq1
  have hs1n : w s1 = none := (wup_none hs1).1
  have hb1n : w b1 = none := (wup_none hb1).1
  have hd1n : w d1 = none := (wup_none hd1).1
  have hq5n : w q2 = none := (wup_none (wup_none (wup_none (wup_none (wup_none hq2).1).1).1).1).1
  have hI0 : cpI (xG X) w S P q1 s1 b1 d1 q2 0 (wup (wup (wup (wup (wup (wup w (q1) (true, .inr (2, [.null, .null, .null, .null, .int (0), .int (0)]))) (s1) (true, .inl ((xG X).2.1 0, 7, .inl (set0)))) (b1) (true, .inr (11, [.int (0), .ref (d1), .int (nI 0)]))) (d1) (true, .inl ((xG X).2.1 6, 20, .inr (.inr (.inr (.inr (fun _ => none))))))) (q1) (true, .inr (2, [.ref (S.pr), .ref (S.wv), .ref (s1), .ref (b1), .int (0), .int (0)]))) (q2) (true, .inr (13, [.int (nI 0), .int (-1), .int (P.bm), .ref (P.ba)]))) := by
    refine ⟨((wup_n (wne wup_s hq2)).trans wup_s), ((wup_n (wne ((wup_n (Ne.symm (wne wup_s hs1))).trans ((wup_n hsd).trans ((wup_n hsb).trans wup_s))) hq2)).trans ((wup_n (Ne.symm (wne wup_s hs1))).trans ((wup_n hsd).trans ((wup_n hsb).trans wup_s)))), by rw [nI_0]; exact ((wup_n (wne ((wup_n (Ne.symm (wne wup_s hb1))).trans ((wup_n hbd).trans wup_s)) hq2)).trans ((wup_n (Ne.symm (wne wup_s hb1))).trans ((wup_n hbd).trans wup_s))), ⟨-1, wup_s⟩, fun a q ha => ?_, fun _ => none, ((wup_n (wne ((wup_n (Ne.symm (wne wup_s hd1))).trans wup_s) hq2)).trans ((wup_n (Ne.symm (wne wup_s hd1))).trans wup_s)), fun j hj => absurd hj (Nat.not_lt_zero j), fun j k hj => absurd hj (Nat.not_lt_zero j)⟩
    rw [wup_n (wne ha hq5n), wup_n (wne ha hp1n), wup_n (wne ha hd1n), wup_n (wne ha hb1n), wup_n (wne ha hs1n), wup_n (wne ha hp1n)]; exact ha
  generalize (wup (wup (wup (wup (wup (wup w (q1) (true, .inr (2, [.null, .null, .null, .null, .int (0), .int (0)]))) (s1) (true, .inl ((xG X).2.1 0, 7, .inl (set0)))) (b1) (true, .inr (11, [.int (0), .ref (d1), .int (nI 0)]))) (d1) (true, .inl ((xG X).2.1 6, 20, .inr (.inr (.inr (.inr (fun _ => none))))))) (q1) (true, .inr (2, [.ref (S.pr), .ref (S.wv), .ref (s1), .ref (b1), .int (0), .int (0)]))) (q2) (true, .inr (13, [.int (nI 0), .int (-1), .int (P.bm), .ref (P.ba)]))) = w1 at hI0 ⊢
  refine loop_up P.nb (fun i => ∀ w1, cpI (xG X) w S P q1 s1 b1 d1 q2 (i) w1 → V X w1 (5 + (i)) (40 + 3 * (i)) 24 [some (.ref p), some (.ref q1), some (.ref q2), none] []) ?_ ?_ 0 (Nat.zero_le _) w1 hI0
  · intro w1 hI
    obtain ⟨h1, h2, h3, ⟨l0, h4⟩, hk, g, hg1, hg2, hg3⟩ := hI
    refine v_aload_n hX dX2_copy_24 rfl ?_
    refine v_cFe hX rfl dX2_copy_25 hg q941 c2_J22_hasNext (by decide +kernel) q945 (by decide +kernel) cl_13 h4 (m2_J22_hasNext hg (by omega) (by omega) h4 (hk _ _ hO.2.2.1)) rfl ⟨rfl, rfl⟩ ⟨Nat.le_of_ble_eq_true rfl, Nat.le_of_ble_eq_true rfl⟩ rfl (Nat.le_of_ble_eq_true rfl) ⟨(by show _ ≤ 25; omega), (by show _ ≤ 100; omega)⟩ ?_
    refine v_if_eq_t (tgt := 58) hX dX2_copy_30 rfl (by simp [bi]) ?_
    refine v_aload_n hX dX2_copy_58 rfl ?_
    refine v_get hX dX2_copy_59 in_X2 cl_2 2 (by decide) q530 (fun _ h => h) (hk _ _ hO.1) rfl ?_
    refine v_iconst hX dX2_copy_62 ki0 ?_
    refine v_aload_n hX dX2_copy_63 rfl ?_
    refine v_get hX dX2_copy_64 in_X2 cl_2 2 (by decide) q530 (fun _ h => h) h1 rfl ?_
    refine v_iconst hX dX2_copy_67 ki0 ?_
    refine v_bipush hX dX2_copy_68 kb7 ?_
    refine v_copyp (ti := 0) hX rfl dX2_copy_70 q1043 rfl rfl (hk _ _ hO.2.1) h2 (by decide) (by decide) (by decide) (by decide) (by decide) (fun _ _ => rfl) (Nat.le_of_ble_eq_true rfl) (Nat.le_of_ble_eq_true rfl) ?_
    refine v_aload_n hX dX2_copy_73 rfl ?_
    refine v_aload_n hX dX2_copy_74 rfl ?_
    refine v_get hX dX2_copy_75 in_X2 cl_2 4 (by decide) q539 (fun _ h => h) ((wup_n (wne2 (hk _ _ hO.1) h2 (by simp))).trans (hk _ _ hO.1)) rfl ?_
    refine v_putw (fs' := [.ref (S.pr), .ref (S.wv), .ref (s1), .ref (b1), .int (P.wc), .int (0)]) hX dX2_copy_78 in_X2 tyX2 tyX2_ok nmX2 cl_2 4 (by decide) q539 (fun _ h => h) rfl (tyX2_ok 4 (by decide)) (rfl) (rfl) ((wup_n (wne2 h1 h2 (by simp))).trans h1) (Nat.le_of_ble_eq_true rfl) rfl ?_
    refine v_aload_n hX dX2_copy_81 rfl ?_
    refine v_aload_n hX dX2_copy_82 rfl ?_
    refine v_get hX dX2_copy_83 in_X2 cl_2 5 (by decide) q543 (fun _ h => h) ((wup_n (wne hO.1 hp1n)).trans ((wup_n (wne2 (hk _ _ hO.1) h2 (by simp))).trans (hk _ _ hO.1))) rfl ?_
    refine v_putw (fs' := [.ref (S.pr), .ref (S.wv), .ref (s1), .ref (b1), .int (P.wc), .int (P.po)]) hX dX2_copy_86 in_X2 tyX2 tyX2_ok nmX2 cl_2 5 (by decide) q543 (fun _ h => h) rfl (tyX2_ok 5 (by decide)) (rfl) (rfl) wup_s (Nat.le_of_ble_eq_true rfl) rfl ?_
    refine V.at wup_ss rfl rfl ?_
    refine v_aload_n hX dX2_copy_89 rfl ?_
    have hel : ∀ j, j < P.nb → ∃ v, g j = some v ∧ (wup (wup w1 (s1) (true, .inl ((xG X).2.1 0, 7, .inl (va_cpy P.sf set0 (0 : Int32).toNatClampNeg (0 : Int32).toNatClampNeg (7 : Int32).toNatClampNeg)))) (q1) (true, .inr (2, [.ref (S.pr), .ref (S.wv), .ref (s1), .ref (b1), .int (P.wc), .int (P.po)]))) v = some (true, bcell (P.bx j)) := fun j hj => by
      obtain ⟨u, e1, e2, e3⟩ := hg2 j hj
      exact ⟨u, e1, (wup_n (wne2 e2 h1 (by simp))).trans ((wup_n (wne2 e2 h2 (by simp))).trans e2)⟩
    have hfr : ∀ a, plA q1 (s1, b1, d1, P.nb, nI P.nb, P.wc, P.po, va_cpy P.sf set0 (0 : Int32).toNatClampNeg (0 : Int32).toNatClampNeg (7 : Int32).toNatClampNeg, g, P.bx) a → w a = none := fun a ha => by
      rcases ha with rfl | rfl | rfl | rfl | ⟨j, hj, e⟩
      · exact hp1n
      · exact hs1n
      · exact hb1n
      · exact hd1n
      · obtain ⟨u, e1, e2, e3⟩ := hg2 j hj; have e : g j = some a := e; rw [e] at e1; cases e1; exact e3
    have hsf : ∀ j, j < 7 → (va_cpy P.sf set0 (0 : Int32).toNatClampNeg (0 : Int32).toNatClampNeg (7 : Int32).toNatClampNeg) j = P.sf j := fun j hj => by
      rw [show (0 : Int32).toNatClampNeg = 0 by decide, show (7 : Int32).toNatClampNeg = 7 by decide, pk_cpy_in (by omega) (by omega)]; congr 1; omega
    exact v_aret hX dX2_copy_90 hR ((by show _ ≤ 25; omega)) ((by show _ ≤ 100; omega)) (by first | exact Or.inl ⟨_, rfl⟩ | exact Or.inr ⟨_, rfl⟩) (by first | exact Or.inl rfl | exact Or.inr ⟨_, rfl⟩) (⟨q1, (s1, b1, d1, P.nb, nI P.nb, P.wc, P.po, va_cpy P.sf set0 (0 : Int32).toNatClampNeg (0 : Int32).toNatClampNeg (7 : Int32).toNatClampNeg, g, P.bx), rfl, ⟨wup_s, ((wup_n (wne2 h2 h1 (by simp))).trans wup_s), ((wup_n (wne2 h3 h1 (by simp))).trans ((wup_n (Ne.symm hsb)).trans h3)), ((wup_n (wne2 hg1 h1 (by simp))).trans ((wup_n (Ne.symm hsd)).trans hg1)), h20, hel, hg3⟩, rfl, rfl, hsf, rfl, rfl, hfr, fun a q ha => (wup_n (wne ha hp1n)).trans ((wup_n (wne ha hs1n)).trans (hk _ _ ha))⟩)
  · intro i hi ih w1 hI
    obtain ⟨h1, h2, h3, ⟨l0, h4⟩, hk, g, hg1, hg2, hg3⟩ := hI
    have ih : ∀ w1, cpI (xG X) w S P q1 s1 b1 d1 q2 (i + 1) w1 → V X w1 (5 + (i + 1)) (40 + 3 * (i + 1)) 24 [some (.ref p), some (.ref q1), some (.ref q2), none] [] := ih
    obtain ⟨v, hve, hvv⟩ := hO.2.2.2.2.2.1 i hi
    refine v_aload_n hX dX2_copy_24 rfl ?_
    refine v_cFe hX rfl dX2_copy_25 hg q941 c2_J22_hasNext (by decide +kernel) q945 (by decide +kernel) cl_13 h4 (m2_J22_hasNext hg (by omega) (by omega) h4 (hk _ _ hO.2.2.1)) rfl ⟨rfl, rfl⟩ ⟨Nat.le_of_ble_eq_true rfl, Nat.le_of_ble_eq_true rfl⟩ rfl (Nat.le_of_ble_eq_true rfl) ⟨(by show _ ≤ 25; omega), (by show _ ≤ 100; omega)⟩ ?_
    refine v_if_eq_f (tgt := 58) hX dX2_copy_30 rfl (by simp [bi]; omega) ?_
    refine v_aload_n hX dX2_copy_33 rfl ?_
    refine v_cFe hX rfl dX2_copy_34 hg q951 c2_J22_next (by decide +kernel) q954 (by decide +kernel) cl_13 h4 (m2_J22_next hg hi h20 (by decide) hve h4 (hk _ _ hO.2.2.1) (hk _ _ hO.2.2.2.1)) rfl ⟨rfl, rfl⟩ ⟨Nat.le_of_ble_eq_true rfl, Nat.le_of_ble_eq_true rfl⟩ rfl (Nat.le_of_ble_eq_true rfl) ⟨(by show _ ≤ 25; omega), (by show _ ≤ 100; omega)⟩ ?_
    refine v_chk hX dX2_copy_39 q800 cl_10 ((wup_n (wne2 (hk _ _ hvv) h4 (by simp))).trans (hk _ _ hvv)) ?_
    refine v_astore_n (lv' := [_, _, _, _]) hX dX2_copy_42 (Nat.le_of_ble_eq_true rfl) rfl rfl ?_
    refine v_aload_n hX dX2_copy_43 rfl ?_
    refine v_get hX dX2_copy_44 in_X2 cl_2 3 (by decide) q534 (fun _ h => h) ((wup_n (wne2 h1 h4 (by simp))).trans h1) rfl ?_
    refine v_aload_n hX dX2_copy_47 rfl ?_
    refine v_cV hX rfl dX2_copy_48 q963 c2_X12_copy q965 rfl cl_10 ((wup_n (wne2 (hk _ _ hvv) h4 (by simp))).trans (hk _ _ hvv)) (m2_X12_copy hg ((wup_n (wne2 (hk _ _ hvv) h4 (by simp))).trans (hk _ _ hvv))) rfl ⟨rfl, rfl⟩ ⟨Nat.le_of_ble_eq_true rfl, Nat.le_of_ble_eq_true rfl⟩ rfl (Nat.le_of_ble_eq_true rfl) ⟨(by show _ ≤ 25; omega), (by show _ ≤ 100; omega)⟩ (fun v w48 h => ?_)
    obtain ⟨q3, hq3, rfl, rfl⟩ := h
    refine V.at rfl rfl (st2 := _ :: _) rfl ?_
    refine v_cVe hX rfl dX2_copy_51 q990 c2_J2_add q992 rfl cl_11 ((wup_n (wne ((wup_n (wne2 h3 h4 (by simp))).trans h3) hq3)).trans ((wup_n (wne2 h3 h4 (by simp))).trans h3)) (m2_J2_add hg cl_10 q2685 (by decide) ((Ne.symm (wne ((wup_n (wne2 h3 h4 (by simp))).trans h3) hq3))) (by omega) (by decide) ((wup_n (wne ((wup_n (wne2 h3 h4 (by simp))).trans h3) hq3)).trans ((wup_n (wne2 h3 h4 (by simp))).trans h3)) ((wup_n (wne ((wup_n (wne2 hg1 h4 (by simp))).trans hg1) hq3)).trans ((wup_n (wne2 hg1 h4 (by simp))).trans hg1)) wup_s) rfl ⟨rfl, rfl⟩ ⟨Nat.le_of_ble_eq_true rfl, Nat.le_of_ble_eq_true rfl⟩ rfl (Nat.le_of_ble_eq_true rfl) ⟨(by show _ ≤ 25; omega), (by show _ ≤ 100; omega)⟩ ?_
    refine v_pop hX dX2_copy_54 rfl ?_
    refine v_goto (tgt := 24) hX dX2_copy_55 rfl ?_
    refine V.no (lv' := [_, _, _, _]) 3 rfl ?_
    refine V.wide (k' := 5 + (i + 1)) (n' := 40 + 3 * (i + 1)) (by omega) (by omega) (ih _ ?_)
    have hvn : w q3 = none := by
      cases hc : w q3 with
      | none => rfl
      | some q =>
        have h9 : (wup w1 (q2) (true, .inr (13, [.int (nI (i + 1)), .int (nI i), .int (P.bm), .ref (P.ba)]))) q3 = some q := (wup_n (wne hc hq5n)).trans (hk _ _ hc)
        rw [hq3] at h9; cases h9
    have hpre : ∀ a q, w a = some q → (wup (wup (wup (wup w1 (q2) (true, .inr (13, [.int (nI (i + 1)), .int (nI i), .int (P.bm), .ref (P.ba)]))) (q3) (true, .inr (10, [.int ((P.bx i).1), .int ((P.bx i).2.1), .int ((P.bx i).2.2)]))) (d1) (true, .inl ((xG X).2.1 6, 20, .inr (.inr (.inr (.inr (va_up g i (some q3)))))))) (b1) (true, .inr (11, [.int ((nI i) + 1), .ref (d1), .int (nI (i + 1))]))) a = some q := fun a q ha => (wup_n (wne ha hb1n)).trans ((wup_n (wne ha hd1n)).trans ((wup_n (wne ha hvn)).trans ((wup_n (wne ha hq5n)).trans (hk _ _ ha))))
    have hb9 : (wup (wup (wup (wup w1 (q2) (true, .inr (13, [.int (nI (i + 1)), .int (nI i), .int (P.bm), .ref (P.ba)]))) (q3) (true, .inr (10, [.int ((P.bx i).1), .int ((P.bx i).2.1), .int ((P.bx i).2.2)]))) (d1) (true, .inl ((xG X).2.1 6, 20, .inr (.inr (.inr (.inr (va_up g i (some q3)))))))) (b1) (true, .inr (11, [.int ((nI i) + 1), .ref (d1), .int (nI (i + 1))]))) b1 = some (true, .inr (11, [.int (nI (i + 1)), .ref (d1), .int (nI (i + 1))])) := by rw [wup_s, nI_1]
    have hold : ∀ j, j < i → ∃ v, va_up g i (some q3) j = some v ∧ (wup (wup (wup (wup w1 (q2) (true, .inr (13, [.int (nI (i + 1)), .int (nI i), .int (P.bm), .ref (P.ba)]))) (q3) (true, .inr (10, [.int ((P.bx i).1), .int ((P.bx i).2.1), .int ((P.bx i).2.2)]))) (d1) (true, .inl ((xG X).2.1 6, 20, .inr (.inr (.inr (.inr (va_up g i (some q3)))))))) (b1) (true, .inr (11, [.int ((nI i) + 1), .ref (d1), .int (nI (i + 1))]))) v = some (true, bcell (P.bx j)) ∧ w v = none ∧ v ≠ q3 := by
      intro j hj
      obtain ⟨u, e1, e2, e3⟩ := hg2 j hj
      have n2 : u ≠ q2 := wne2 e2 h4 (by simp)
      have n3 : u ≠ q3 := wne ((wup_n n2).trans e2) hq3
      exact ⟨u, by rw [va_up_ne _ _ (by omega)]; exact e1, (wup_n (wne2 e2 h3 (by simp))).trans ((wup_n (wne2 e2 hg1 (by simp))).trans ((wup_n n3).trans ((wup_n n2).trans e2))), e3, n3⟩
    refine ⟨((wup_n (wne2 h1 h3 (by simp))).trans ((wup_n (wne2 h1 hg1 (by simp))).trans ((wup_n (wne ((wup_n (wne2 h1 h4 (by simp))).trans h1) hq3)).trans ((wup_n (wne2 h1 h4 (by simp))).trans h1)))), ((wup_n hsb).trans ((wup_n hsd).trans ((wup_n (wne ((wup_n (wne2 h2 h4 (by simp))).trans h2) hq3)).trans ((wup_n (wne2 h2 h4 (by simp))).trans h2)))), hb9, ⟨nI i, ((wup_n (wne2 h4 h3 (by simp))).trans ((wup_n (wne2 h4 hg1 (by simp))).trans ((wup_n (wne wup_s hq3)).trans wup_s)))⟩, hpre, va_up g i (some q3), ((wup_n (Ne.symm hbd)).trans wup_s), fun j hj => ?_, fun j k hj hk9 he => ?_⟩
    · by_cases hji : j = i
      · subst hji; exact ⟨q3, va_up_self _ _ _, ((wup_n (Ne.symm (wne ((wup_n (wne2 h3 h4 (by simp))).trans h3) hq3))).trans ((wup_n (Ne.symm (wne ((wup_n (wne2 hg1 h4 (by simp))).trans hg1) hq3))).trans wup_s)), hvn⟩
      · obtain ⟨u, e1, e2, e3, -⟩ := hold j (by omega); exact ⟨u, e1, e2, e3⟩
    · by_cases hji : j = i <;> by_cases hki : k = i
      · omega
      · obtain ⟨u, e1, -, -, e4⟩ := hold k (by omega); rw [hji, va_up_self, e1] at he; exact absurd (Option.some.inj he).symm e4
      · obtain ⟨u, e1, -, -, e4⟩ := hold j (by omega); rw [hki, va_up_self, e1] at he; exact absurd (Option.some.inj he) e4
      · rw [va_up_ne _ _ hji, va_up_ne _ _ hki] at he; exact hg3 j k (by omega) (by omega) he
