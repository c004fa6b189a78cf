/-! lists -/
set_option maxRecDepth 100000
theorem kim1 : Int32.ofInt (-1) = -1 := by decide +kernel
theorem ki0 : Int32.ofInt (0) = 0 := by decide +kernel
theorem ki1 : Int32.ofInt (1) = 1 := by decide +kernel
theorem wup_none {w : Wd} {a b : Nat} {q : Bool × va_E} (h : wup w a q b = none) : w b = none ∧ b ≠ a := by
  have hne : b ≠ a := fun e => by rw [e, wup_s] at h; cases h
  exact ⟨(wup_n hne).symm.trans h, hne⟩
theorem c2_J0_init : CG yJ0_init cJ0_init 1 none 0 := ⟨q179, q125, q180, by decide +kernel⟩
theorem m2_J0_init {Γ : Gm} {l : Launch} {w : Wd} (a : Nat)  : M0 Γ l yJ0_init (ws_ yJ0_init cJ0_init 1 none) (rl 1 0 0) 0 0 [.ref (a)] w (fun v9 w9 => v9 = none ∧ w9 = w) := by
  refine M0.of (lv := [some (.ref (a))]) (by decide) (Nat.le_of_ble_eq_true rfl) 0 rfl rfl ?_
  intro X hX hR hl hG hnm
  subst hl; subst hG
  refine v_aload_n hX dJ0_init_0 rfl ?_
  refine v_obj hX rfl dJ0_init_1 q181 (Nat.le_of_ble_eq_true rfl) (Nat.le_of_ble_eq_true rfl) ?_
  exact v_vret hX dJ0_init_4 hR (Nat.le_of_ble_eq_true rfl) (Nat.le_of_ble_eq_true rfl) (⟨rfl, rfl⟩)
theorem c2_J1_init : CG yJ1_init cJ1_init 1 none 0 := ⟨q176, q126, q177, by decide +kernel⟩
theorem m2_J1_init {Γ : Gm} {l : Launch} {w : Wd} {a : Nat} {m d s : Value} (ha : w (a) = some (true, .inr (11, [m, d, s]))) : M0 Γ l yJ1_init (ws_ yJ1_init cJ1_init 1 none) (rl 2 0 0) 0 0 [.ref (a)] w (fun v9 w9 => v9 = none ∧ w9 = (wup w (a) (true, .inr (11, [.int (0), d, s])))) := by
  refine M0.of (lv := [some (.ref (a))]) (by decide) (Nat.le_of_ble_eq_true rfl) 0 rfl rfl ?_
  intro X hX hR hl hG hnm
  subst hl; subst hG
  refine v_aload_n hX dJ1_init_0 rfl ?_
  refine v_cIe0 hX rfl dJ1_init_1 q178 c2_J0_init rfl (m2_J0_init (a)) rfl ⟨rfl, rfl⟩ ⟨Nat.le_of_ble_eq_true rfl, Nat.le_of_ble_eq_true rfl⟩ rfl (Nat.le_of_ble_eq_true rfl) ⟨Nat.le_of_ble_eq_true rfl, Nat.le_of_ble_eq_true rfl⟩ ?_
  refine v_aload_n hX dJ1_init_4 rfl ?_
  refine v_iconst hX dJ1_init_5 ki0 ?_
  refine v_putw (fs' := [.int (0), d, s]) hX dJ1_init_6 in_J2 tyJ2 tyJ2_ok nmJ2 cl_11 0 (by decide) q506 (fun _ h => h) rfl (tyJ2_ok 0 (by decide)) (rfl) (rfl) ha (Nat.le_of_ble_eq_true rfl) rfl ?_
  exact v_vret hX dJ1_init_9 hR (Nat.le_of_ble_eq_true rfl) (Nat.le_of_ble_eq_true rfl) (⟨rfl, rfl⟩)
theorem hq1n {w : Wd} {a b : Nat} {p q : Bool × va_E} (ha : w a = some p) (h : wup w a q b = none) : w b = none := by
  rw [wup_n (fun e => by rw [e, wup_s] at h; cases h)] at h; exact h
theorem hne1 {w : Wd} {a b : Nat} {p q : Bool × va_E} (ha : w a = some p) (h : wup w a q b = none) : b ≠ a := fun e => by rw [e, wup_s] at h; cases h
theorem c2_J2_init : CG yJ2_init cJ2_init 2 none 1 := ⟨q173, q127, q174, by decide +kernel⟩
theorem m2_J2_init8 {Γ : Gm} {l : Launch} {w : Wd} (hg : gC Γ) {a : Nat} (ha : w (a) = some (true, .inr (11, [.int (0), .null, .int (0)]))) : M0 Γ l yJ2_init (ws_ yJ2_init cJ2_init 2 none) (rl 3 1 8) 1 8 [.ref (a), .int (8)] w (fun v9 w9 => v9 = none ∧ ∃ q : Nat, w q = none ∧ w9 = wup (wup w q (true, .inl (Γ.2.1 6, 8, .inr (.inr (.inr (.inr (fun _ => none))))))) a (true, .inr (11, [.int (0), .ref (q), .int (nI 0)]))) := by
  refine M0.of (lv := [some (.ref (a)), some (.int (8))]) (by decide) (Nat.le_of_ble_eq_true rfl) 0 rfl rfl ?_
  intro X hX hR hl hG hnm
  subst hl; subst hG
  refine v_aload_n hX dJ2_init_0 rfl ?_
  refine v_cIe0 hX rfl dJ2_init_1 q175 c2_J1_init rfl (m2_J1_init ha) rfl ⟨rfl, rfl⟩ ⟨Nat.le_of_ble_eq_true rfl, Nat.le_of_ble_eq_true rfl⟩ rfl (Nat.le_of_ble_eq_true rfl) ⟨Nat.le_of_ble_eq_true rfl, Nat.le_of_ble_eq_true rfl⟩ ?_
  refine v_iload_n hX dJ2_init_4 rfl ?_
  refine v_if_le_f (tgt := 19) hX dJ2_init_5 rfl (by decide) ?_
  refine v_aload_n hX dJ2_init_8 rfl ?_
  refine v_iload_n hX dJ2_init_9 rfl ?_
  refine v_anew (N := 8) hX dJ2_init_10 hg q182 (by decide) (by decide) (Nat.le_of_ble_eq_true rfl) (Nat.le_of_ble_eq_true rfl) (Nat.le_of_ble_eq_true rfl) (fun q1 hq1 => ?_)
  refine v_putw (fs' := [.int (0), .ref (q1), .int (0)]) hX dJ2_init_13 in_J2 tyJ2 tyJ2_ok nmJ2 cl_11 1 (by decide) q502 (fun _ h => h) rfl (tyJ2_ok 1 (by decide)) (rfl) (rfl) ((wup_n (wne wup_s hq1)).trans wup_s) (Nat.le_of_ble_eq_true rfl) rfl ?_
  refine v_goto (tgt := 60) hX dJ2_init_16 rfl ?_
  exact v_vret hX dJ2_init_60 hR (Nat.le_of_ble_eq_true rfl) (Nat.le_of_ble_eq_true rfl) (⟨rfl, q1, (wup_none hq1).1, by rw [nI_0]; exact (by funext z; unfold wup; by_cases e0 : z = a <;>  by_cases e1 : z = q1 <;> simp [e0, e1, (wne wup_s hq1), Ne.symm (wne wup_s hq1)])⟩)
theorem m2_J2_init20 {Γ : Gm} {l : Launch} {w : Wd} (hg : gC Γ) {a : Nat} (ha : w (a) = some (true, .inr (11, [.int (0), .null, .int (0)]))) : M0 Γ l yJ2_init (ws_ yJ2_init cJ2_init 2 none) (rl 3 1 20) 1 20 [.ref (a), .int (20)] w (fun v9 w9 => v9 = none ∧ ∃ q : Nat, w q = none ∧ w9 = wup (wup w q (true, .inl (Γ.2.1 6, 20, .inr (.inr (.inr (.inr (fun _ => none))))))) a (true, .inr (11, [.int (0), .ref (q), .int (nI 0)]))) := by
  refine M0.of (lv := [some (.ref (a)), some (.int (20))]) (by decide) (Nat.le_of_ble_eq_true rfl) 0 rfl rfl ?_
  intro X hX hR hl hG hnm
  subst hl; subst hG
  refine v_aload_n hX dJ2_init_0 rfl ?_
  refine v_cIe0 hX rfl dJ2_init_1 q175 c2_J1_init rfl (m2_J1_init ha) rfl ⟨rfl, rfl⟩ ⟨Nat.le_of_ble_eq_true rfl, Nat.le_of_ble_eq_true rfl⟩ rfl (Nat.le_of_ble_eq_true rfl) ⟨Nat.le_of_ble_eq_true rfl, Nat.le_of_ble_eq_true rfl⟩ ?_
  refine v_iload_n hX dJ2_init_4 rfl ?_
  refine v_if_le_f (tgt := 19) hX dJ2_init_5 rfl (by decide) ?_
  refine v_aload_n hX dJ2_init_8 rfl ?_
  refine v_iload_n hX dJ2_init_9 rfl ?_
  refine v_anew (N := 20) hX dJ2_init_10 hg q182 (by decide) (by decide) (Nat.le_of_ble_eq_true rfl) (Nat.le_of_ble_eq_true rfl) (Nat.le_of_ble_eq_true rfl) (fun q1 hq1 => ?_)
  refine v_putw (fs' := [.int (0), .ref (q1), .int (0)]) hX dJ2_init_13 in_J2 tyJ2 tyJ2_ok nmJ2 cl_11 1 (by decide) q502 (fun _ h => h) rfl (tyJ2_ok 1 (by decide)) (rfl) (rfl) ((wup_n (wne wup_s hq1)).trans wup_s) (Nat.le_of_ble_eq_true rfl) rfl ?_
  refine v_goto (tgt := 60) hX dJ2_init_16 rfl ?_
  exact v_vret hX dJ2_init_60 hR (Nat.le_of_ble_eq_true rfl) (Nat.le_of_ble_eq_true rfl) (⟨rfl, q1, (wup_none hq1).1, by rw [nI_0]; exact (by funext z; unfold wup; by_cases e0 : z = a <;>  by_cases e1 : z = q1 <;> simp [e0, e1, (wne wup_s hq1), Ne.symm (wne wup_s hq1)])⟩)
theorem c2_J2_size : CG yJ2_size cJ2_size 1 (some .int) 0 := ⟨q730, q127, q732, by decide +kernel⟩
theorem m2_J2_size {Γ : Gm} {l : Launch} {w : Wd} {a : Nat} {m s : Int32} {d : Value} (ha : w (a) = some (true, .inr (11, [.int (m), d, .int (s)]))) : M0 Γ l yJ2_size (ws_ yJ2_size cJ2_size 1 (some .int)) (rl 0 0 0) 0 0 [.ref (a)] w (fun v9 w9 => v9 = some (.int (s)) ∧ w9 = w) := by
  refine M0.of (lv := [some (.ref (a))]) (by decide) (Nat.le_of_ble_eq_true rfl) 0 rfl rfl ?_
  intro X hX hR hl hG hnm
  subst hl; subst hG
  refine v_aload_n hX dJ2_size_0 rfl ?_
  refine v_get hX dJ2_size_1 in_J2 cl_11 2 (by decide) q505 (fun _ h => h) ha rfl ?_
  exact v_iret hX dJ2_size_4 hR (Nat.le_of_ble_eq_true rfl) (Nat.le_of_ble_eq_true rfl) (⟨rfl, rfl⟩)
theorem c2_J14_checkIndex : CS yJ14_checkIndex cJ14_checkIndex 3 (some .int) 3 := ⟨q794, q140, q795, by decide +kernel⟩
theorem m2_J14_checkIndex {Γ : Gm} {l : Launch} {w : Wd} {i s : Nat} (h : i < s) (hs : s < 2 ^ 31)  : M0 Γ l yJ14_checkIndex (ws_ yJ14_checkIndex cJ14_checkIndex 3 (some .int)) (rl 0 0 0) 0 0 [.int (nI i), .int (nI s), .null] w (fun v9 w9 => v9 = some (.int (nI i)) ∧ w9 = w) := by
  refine M0.of (lv := [some (.int (nI i)), some (.int (nI s)), some (.null)]) (by decide) (Nat.le_of_ble_eq_true rfl) 0 rfl rfl ?_
  intro X hX hR hl hG hnm
  subst hl; subst hG
  refine v_iload_n hX dJ14_checkIndex_0 rfl ?_
  refine v_if_lt_f (tgt := 9) hX dJ14_checkIndex_1 rfl (nI_pos (by omega)) ?_
  refine v_iload_n hX dJ14_checkIndex_4 rfl ?_
  refine v_iload_n hX dJ14_checkIndex_5 rfl ?_
  refine v_icmp_lt_t (tgt := 16) hX dJ14_checkIndex_6 rfl (nI_lt h hs) ?_
  refine v_iload_n hX dJ14_checkIndex_16 rfl ?_
  exact v_iret hX dJ14_checkIndex_17 hR (Nat.le_of_ble_eq_true rfl) (Nat.le_of_ble_eq_true rfl) (⟨rfl, rfl⟩)
theorem c2_J19_checkIndex : CS yJ19_checkIndex cJ19_checkIndex 2 (some .int) 2 := ⟨q791, q154, q792, by decide +kernel⟩
theorem m2_J19_checkIndex {Γ : Gm} {l : Launch} {w : Wd} {i s : Nat} (h : i < s) (hs : s < 2 ^ 31)  : M0 Γ l yJ19_checkIndex (ws_ yJ19_checkIndex cJ19_checkIndex 2 (some .int)) (rl 1 0 0) 0 0 [.int (nI i), .int (nI s)] w (fun v9 w9 => v9 = some (.int (nI i)) ∧ w9 = w) := by
  refine M0.of (lv := [some (.int (nI i)), some (.int (nI s))]) (by decide) (Nat.le_of_ble_eq_true rfl) 0 rfl rfl ?_
  intro X hX hR hl hG hnm
  subst hl; subst hG
  refine v_iload_n hX dJ19_checkIndex_0 rfl ?_
  refine v_iload_n hX dJ19_checkIndex_1 rfl ?_
  refine v_null hX dJ19_checkIndex_2 ?_
  refine v_cSe hX rfl dJ19_checkIndex_3 q793 c2_J14_checkIndex (m2_J14_checkIndex h hs) rfl ⟨rfl, rfl⟩ ⟨Nat.le_of_ble_eq_true rfl, Nat.le_of_ble_eq_true rfl⟩ rfl (Nat.le_of_ble_eq_true rfl) ⟨Nat.le_of_ble_eq_true rfl, Nat.le_of_ble_eq_true rfl⟩ ?_
  exact v_iret hX dJ19_checkIndex_6 hR (Nat.le_of_ble_eq_true rfl) (Nat.le_of_ble_eq_true rfl) (⟨rfl, rfl⟩)
theorem c2_J2_elementData : CG yJ2_elementData cJ2_elementData 2 (Option.some (Jvm.ClassFile.FieldType.object "java/lang/Object")) 1 := ⟨q797, q127, q799, by decide +kernel⟩
theorem m2_J2_elementData {Γ : Gm} {l : Launch} {w : Wd} {a d s N : Nat} {m : Int32} {f : Nat → Option Nat} {i v : Nat} (h : i < N) (hN : N < 2 ^ 31) (hv : f i = some v) (ha : w (a) = some (true, .inr (11, [.int (m), .ref (d), .int (nI s)]))) (hd : w (d) = some (true, .inl (Γ.2.1 6, N, .inr (.inr (.inr (.inr (f))))))) : M0 Γ l yJ2_elementData (ws_ yJ2_elementData cJ2_elementData 2 (Option.some (Jvm.ClassFile.FieldType.object "java/lang/Object"))) (rl 0 0 0) 0 0 [.ref (a), .int (nI i)] w (fun v9 w9 => v9 = some (.ref (v)) ∧ w9 = w) := by
  refine M0.of (lv := [some (.ref (a)), some (.int (nI i))]) (by decide) (Nat.le_of_ble_eq_true rfl) 0 rfl rfl ?_
  intro X hX hR hl hG hnm
  subst hl; subst hG
  refine v_aload_n hX dJ2_elementData_0 rfl ?_
  refine v_get hX dJ2_elementData_1 in_J2 cl_11 1 (by decide) q502 (fun _ h => h) ha rfl ?_
  refine v_iload_n hX dJ2_elementData_4 rfl ?_
  refine v_aald hX dJ2_elementData_5 hd (vp_in_nI h hN) ?_
  refine V.top (v := .ref (v)) (by rw [nI_clamp (by omega), hv]; rfl) ?_
  exact v_aret hX dJ2_elementData_6 hR (Nat.le_of_ble_eq_true rfl) (Nat.le_of_ble_eq_true rfl) (by first | exact Or.inl ⟨_, rfl⟩ | exact Or.inr ⟨_, rfl⟩) (by first | exact Or.inl rfl | exact Or.inr ⟨_, rfl⟩) (⟨rfl, rfl⟩)
theorem c2_J2_get : CG yJ2_get cJ2_get 2 (Option.some (Jvm.ClassFile.FieldType.object "java/lang/Object")) 1 := ⟨q787, q127, q789, by decide +kernel⟩
theorem m2_J2_get {Γ : Gm} {l : Launch} {w : Wd} {a d s N : Nat} {m : Int32} {f : Nat → Option Nat} {i v : Nat} (h : i < s) (hs : s ≤ N) (hN : N < 2 ^ 31) (hv : f i = some v) (ha : w (a) = some (true, .inr (11, [.int (m), .ref (d), .int (nI s)]))) (hd : w (d) = some (true, .inl (Γ.2.1 6, N, .inr (.inr (.inr (.inr (f))))))) : M0 Γ l yJ2_get (ws_ yJ2_get cJ2_get 2 (Option.some (Jvm.ClassFile.FieldType.object "java/lang/Object"))) (rl 2 0 0) 0 0 [.ref (a), .int (nI i)] w (fun v9 w9 => v9 = some (.ref (v)) ∧ w9 = w) := by
  refine M0.of (lv := [some (.ref (a)), some (.int (nI i))]) (by decide) (Nat.le_of_ble_eq_true rfl) 0 rfl rfl ?_
  intro X hX hR hl hG hnm
  subst hl; subst hG
  refine v_iload_n hX dJ2_get_0 rfl ?_
  refine v_aload_n hX dJ2_get_1 rfl ?_
  refine v_get hX dJ2_get_2 in_J2 cl_11 2 (by decide) q505 (fun _ h => h) ha rfl ?_
  refine v_cSe hX rfl dJ2_get_5 q790 c2_J19_checkIndex (m2_J19_checkIndex h (by omega)) rfl ⟨rfl, rfl⟩ ⟨Nat.le_of_ble_eq_true rfl, Nat.le_of_ble_eq_true rfl⟩ rfl (Nat.le_of_ble_eq_true rfl) ⟨Nat.le_of_ble_eq_true rfl, Nat.le_of_ble_eq_true rfl⟩ ?_
  refine v_pop hX dJ2_get_8 rfl ?_
  refine v_aload_n hX dJ2_get_9 rfl ?_
  refine v_iload_n hX dJ2_get_10 rfl ?_
  refine v_cVe hX rfl dJ2_get_11 q796 c2_J2_elementData q798 rfl cl_11 ha (m2_J2_elementData (Nat.lt_of_lt_of_le h hs) hN hv ha hd) rfl ⟨rfl, rfl⟩ ⟨Nat.le_of_ble_eq_true rfl, Nat.le_of_ble_eq_true rfl⟩ rfl (Nat.le_of_ble_eq_true rfl) ⟨Nat.le_of_ble_eq_true rfl, Nat.le_of_ble_eq_true rfl⟩ ?_
  exact v_aret hX dJ2_get_14 hR (Nat.le_of_ble_eq_true rfl) (Nat.le_of_ble_eq_true rfl) (by first | exact Or.inl ⟨_, rfl⟩ | exact Or.inr ⟨_, rfl⟩) (by first | exact Or.inl rfl | exact Or.inr ⟨_, rfl⟩) (⟨rfl, rfl⟩)
theorem c2_J2_add_2 : CG yJ2_add_2 cJ2_add_2 4 none 3 := ⟨q996, q127, q997, by decide +kernel⟩
theorem m2_J2_add_2 {Γ : Gm} {l : Launch} {w : Wd} (hg : gC Γ) {a d s N : Nat} {m : Int32} {f : Nat → Option Nat} {C0 : String} {T0c : u_T} {N0 ci : Nat} (hc0 : vwCl[ci]? = some (C0, T0c, N0)) (hca : Cond.castable C0 "java/lang/Object" ∈ lw_tbl) (hci : ci ≠ 11) {e : Nat} {fe : List Value} (hea : e ≠ a) (hs : s < N) (hN : N < 2 ^ 31) (ha : w (a) = some (true, .inr (11, [.int (m), .ref (d), .int (nI s)]))) (hd : w (d) = some (true, .inl (Γ.2.1 6, N, .inr (.inr (.inr (.inr (f))))))) (he : w (e) = some (true, .inr (ci, fe))) : M0 Γ l yJ2_add_2 (ws_ yJ2_add_2 cJ2_add_2 4 none) (rl 0 0 0) 0 0 [.ref (a), .ref (e), .ref (d), .int (nI s)] w (fun v9 w9 => v9 = none ∧ w9 = (wup (wup w (d) (true, .inl (Γ.2.1 6, N, .inr (.inr (.inr (.inr (va_up f s (some e)))))))) (a) (true, .inr (11, [.int (m), .ref (d), .int (nI (s + 1))])))) := by
  refine M0.of (lv := [some (.ref (a)), some (.ref (e)), some (.ref (d)), some (.int (nI s))]) (by decide) (Nat.le_of_ble_eq_true rfl) 0 rfl rfl ?_
  intro X hX hR hl hG hnm
  subst hl; subst hG
  refine v_iload_n hX dJ2_add_2_0 rfl ?_
  refine v_aload_n hX dJ2_add_2_1 rfl ?_
  refine v_alen (ti := 6) hX dJ2_add_2_2 hd rfl rfl ?_
  refine v_icmp_ne_t (tgt := 11) hX dJ2_add_2_3 rfl (fun h => absurd ((nI_eq (by omega) hN).mp h) (by omega)) ?_
  refine v_aload_n hX dJ2_add_2_11 rfl ?_
  refine v_iload_n hX dJ2_add_2_12 rfl ?_
  refine v_aload_n hX dJ2_add_2_13 rfl ?_
  refine v_aast hX dJ2_add_2_14 hg hd hc0 hca he (vp_in_nI hs hN) ?_
  refine v_aload_n hX dJ2_add_2_15 rfl ?_
  refine v_iload_n hX dJ2_add_2_16 rfl ?_
  refine v_iconst hX dJ2_add_2_17 ki1 ?_
  refine v_iadd hX dJ2_add_2_18 ?_
  refine v_putw (fs' := [.int (m), .ref (d), .int ((nI s) + 1)]) hX dJ2_add_2_19 in_J2 tyJ2 tyJ2_ok nmJ2 cl_11 2 (by decide) q505 (fun _ h => h) rfl (tyJ2_ok 2 (by decide)) (rfl) (rfl) ((wup_n (wne2 ha hd (by simp))).trans ha) (Nat.le_of_ble_eq_true rfl) rfl ?_
  exact v_vret hX dJ2_add_2_22 hR (Nat.le_of_ble_eq_true rfl) (Nat.le_of_ble_eq_true rfl) (⟨rfl, by rw [nI_clamp (by omega), nI_1]⟩)
theorem c2_J2_add : CG yJ2_add cJ2_add 2 (some .boolean) 1 := ⟨q991, q127, q993, by decide +kernel⟩
theorem m2_J2_add {Γ : Gm} {l : Launch} {w : Wd} (hg : gC Γ) {a d s N : Nat} {m : Int32} {f : Nat → Option Nat} {C0 : String} {T0c : u_T} {N0 ci : Nat} (hc0 : vwCl[ci]? = some (C0, T0c, N0)) (hca : Cond.castable C0 "java/lang/Object" ∈ lw_tbl) (hci : ci ≠ 11) {e : Nat} {fe : List Value} (hea : e ≠ a) (hs : s < N) (hN : N < 2 ^ 31) (ha : w (a) = some (true, .inr (11, [.int (m), .ref (d), .int (nI s)]))) (hd : w (d) = some (true, .inl (Γ.2.1 6, N, .inr (.inr (.inr (.inr (f))))))) (he : w (e) = some (true, .inr (ci, fe))) : M0 Γ l yJ2_add (ws_ yJ2_add cJ2_add 2 (some .boolean)) (rl 1 0 0) 0 0 [.ref (a), .ref (e)] w (fun v9 w9 => v9 = some (.int (1)) ∧ w9 = (wup (wup w (d) (true, .inl (Γ.2.1 6, N, .inr (.inr (.inr (.inr (va_up f s (some e)))))))) (a) (true, .inr (11, [.int (m + 1), .ref (d), .int (nI (s + 1))])))) := by
  refine M0.of (lv := [some (.ref (a)), some (.ref (e))]) (by decide) (Nat.le_of_ble_eq_true rfl) 0 rfl rfl ?_
  intro X hX hR hl hG hnm
  subst hl; subst hG
  refine v_aload_n hX dJ2_add_0 rfl ?_
  refine v_dup hX dJ2_add_1 rfl ?_
  refine v_get hX dJ2_add_2 in_J2 cl_11 0 (by decide) q509 (u_same (hX.1.2.2.2.2 _ q508)) ha rfl ?_
  refine v_iconst hX dJ2_add_5 ki1 ?_
  refine v_iadd hX dJ2_add_6 ?_
  refine v_putw (fs' := [.int (m + 1), .ref (d), .int (nI s)]) hX dJ2_add_7 in_J2 tyJ2 tyJ2_ok nmJ2 cl_11 0 (by decide) q509 (u_same (hX.1.2.2.2.2 _ q508)) rfl (tyJ2_ok 0 (by decide)) (rfl) (rfl) ha (Nat.le_of_ble_eq_true rfl) rfl ?_
  refine v_aload_n hX dJ2_add_10 rfl ?_
  refine v_aload_n hX dJ2_add_11 rfl ?_
  refine v_aload_n hX dJ2_add_12 rfl ?_
  refine v_get hX dJ2_add_13 in_J2 cl_11 1 (by decide) q502 (fun _ h => h) wup_s rfl ?_
  refine v_aload_n hX dJ2_add_16 rfl ?_
  refine v_get hX dJ2_add_17 in_J2 cl_11 2 (by decide) q505 (fun _ h => h) wup_s rfl ?_
  refine v_cVe0 hX rfl dJ2_add_20 q994 c2_J2_add_2 qs16 rfl cl_11 wup_s (m2_J2_add_2 hg hc0 hca hci hea hs hN wup_s ((wup_n (wne2 hd ha (by simp))).trans hd) ((wup_n hea).trans he)) rfl ⟨rfl, rfl⟩ ⟨Nat.le_of_ble_eq_true rfl, Nat.le_of_ble_eq_true rfl⟩ rfl (Nat.le_of_ble_eq_true rfl) ⟨Nat.le_of_ble_eq_true rfl, Nat.le_of_ble_eq_true rfl⟩ ?_
  refine v_iconst hX dJ2_add_23 ki1 ?_
  exact v_zret hX dJ2_add_24 hR (Nat.le_of_ble_eq_true rfl) (Nat.le_of_ble_eq_true rfl) (rfl) (⟨rfl, by funext z; unfold wup; by_cases e0 : z = a <;>  by_cases e1 : z = d <;> simp [e0, e1, (wne2 ha hd (by simp)), Ne.symm (wne2 ha hd (by simp))]⟩)
/-- a list's places behind a removal -/
def lrem (f : Nat → Option Nat) (s i : Nat) : Nat → Option Nat := fun j => if j < i then f j else if j + 1 < s then f (j + 1) else if j + 1 = s then none else f j
theorem lrem_1 {f : Nat → Option Nat} {s i : Nat} (h : i < s) : va_up (va_cpy f f (i + 1) i (s - 1 - i)) (s - 1) none = lrem f s i := by
  funext j
  unfold va_up lrem
  by_cases e : j = s - 1
  · rw [if_pos e, if_neg (by omega), if_neg (by omega), if_pos (by omega)]
  · rw [if_neg e]
    by_cases h1 : j < i
    · rw [if_pos h1, pk_cpy_out (Or.inl h1)]
    · rw [if_neg h1]
      by_cases h2 : j + 1 < s
      · rw [if_pos h2, pk_cpy_in (by omega) (by omega)]; congr 1; omega
      · rw [if_neg h2, if_neg (by omega), pk_cpy_out (Or.inr (by omega))]
theorem lrem_0 {f : Nat → Option Nat} {s i : Nat} (h : i < s) (h2 : s - 1 ≤ i) : va_up f (s - 1) none = lrem f s i := by
  funext j
  unfold va_up lrem
  by_cases e : j = s - 1
  · rw [if_pos e, if_neg (by omega), if_neg (by omega), if_pos (by omega)]
  · rw [if_neg e]
    by_cases h1 : j < i
    · rw [if_pos h1]
    · rw [if_neg h1, if_neg (by omega), if_neg (by omega)]
/-- a list's places behind an insertion -/
def lins (f : Nat → Option Nat) (s i e : Nat) : Nat → Option Nat := fun j => if j < i then f j else if j = i then some e else if j ≤ s then f (j - 1) else f j
theorem lins_1 {f : Nat → Option Nat} {s i e : Nat} (h : i ≤ s) : va_up (va_cpy f f i (i + 1) (s - i)) i (some e) = lins f s i e := by
  funext j
  unfold va_up lins
  by_cases h0 : j = i
  · rw [if_pos h0, if_neg (by omega), if_pos h0]
  · rw [if_neg h0]
    by_cases h1 : j < i
    · rw [if_pos h1, pk_cpy_out (Or.inl (by omega))]
    · rw [if_neg h1, if_neg h0]
      by_cases h2 : j ≤ s
      · rw [if_pos h2, pk_cpy_in (by omega) (by omega)]; congr 1; omega
      · rw [if_neg h2, pk_cpy_out (Or.inr (by omega))]
/-- the places below s hold objects of the class ci -/
def lel (w : Wd) (ci s : Nat) (f : Nat → Option Nat) : Prop := ∀ j : Nat, j < s → ∃ (v : Nat) (fs : List Value), f j = some v ∧ w v = some (true, .inr (ci, fs))
theorem lel_up {w : Wd} {ci s a : Nat} {f : Nat → Option Nat} {q : Bool × va_E} {z : List Value} (h : lel w ci s f) (hci : ci ≠ 11) (ha : w a = some (true, .inr (11, z))) : lel (wup w a q) ci s f := by
  intro j hj
  obtain ⟨v, fs, h1, h2⟩ := h j hj
  exact ⟨v, fs, h1, (wup_n (wne2 h2 ha (by simp [hci]))).trans h2⟩
theorem lel_z {w : Wd} {ci s sp m : Nat} {f : Nat → Option Nat} (h : lel w ci s f) (hm : sp + m ≤ s) : ∀ i : Nat, i < m → ∀ z : Nat, f (sp + i) = some z → ∃ (t : Bool) (fs : List Value), w z = some (t, .inr (ci, fs)) := by
  intro i hi z hz
  obtain ⟨v, fs, h1, h2⟩ := h (sp + i) (by omega)
  rw [hz] at h1
  cases h1
  exact ⟨true, fs, h2⟩
theorem c2_J2_fastRemove : CG yJ2_fastRemove cJ2_fastRemove 4 none 2 := ⟨q1068, q127, q1069, by decide +kernel⟩
theorem m2_J2_fastRemove {Γ : Gm} {l : Launch} {w : Wd} (hg : gC Γ) {a d s N : Nat} {m : Int32} {f : Nat → Option Nat} {C0 : String} {T0c : u_T} {N0 ci : Nat} (hc0 : vwCl[ci]? = some (C0, T0c, N0)) (hca : Cond.castable C0 "java/lang/Object" ∈ lw_tbl) (hci : ci ≠ 11) (hel : lel w ci s f) {i : Nat} (h : i < s) (hs : s ≤ N) (hN : N < 2 ^ 31) (ha : w (a) = some (true, .inr (11, [.int (m), .ref (d), .int (nI s)]))) (hd : w (d) = some (true, .inl (Γ.2.1 6, N, .inr (.inr (.inr (.inr (f))))))) : M0 Γ l yJ2_fastRemove (ws_ yJ2_fastRemove cJ2_fastRemove 4 none) (rl 1 0 0) 0 0 [.ref (a), .ref (d), .int (nI i)] w (fun v9 w9 => v9 = none ∧ w9 = (wup (wup w (a) (true, .inr (11, [.int (m + 1), .ref (d), .int (nI (s - 1))]))) (d) (true, .inl (Γ.2.1 6, N, .inr (.inr (.inr (.inr (lrem f s i)))))))) := by
  refine M0.of (lv := [some (.ref (a)), some (.ref (d)), some (.int (nI i)), none]) (by decide) (Nat.le_of_ble_eq_true rfl) 1 rfl rfl ?_
  intro X hX hR hl hG hnm
  subst hl; subst hG
  refine v_aload_n hX dJ2_fastRemove_0 rfl ?_
  refine v_dup hX dJ2_fastRemove_1 rfl ?_
  refine v_get hX dJ2_fastRemove_2 in_J2 cl_11 0 (by decide) q509 (u_same (hX.1.2.2.2.2 _ q508)) ha rfl ?_
  refine v_iconst hX dJ2_fastRemove_5 ki1 ?_
  refine v_iadd hX dJ2_fastRemove_6 ?_
  refine v_putw (fs' := [.int (m + 1), .ref (d), .int (nI s)]) hX dJ2_fastRemove_7 in_J2 tyJ2 tyJ2_ok nmJ2 cl_11 0 (by decide) q509 (u_same (hX.1.2.2.2.2 _ q508)) rfl (tyJ2_ok 0 (by decide)) (rfl) (rfl) ha (Nat.le_of_ble_eq_true rfl) rfl ?_
  refine v_aload_n hX dJ2_fastRemove_10 rfl ?_
  refine v_get hX dJ2_fastRemove_11 in_J2 cl_11 2 (by decide) q505 (fun _ h => h) wup_s rfl ?_
  refine v_iconst hX dJ2_fastRemove_14 ki1 ?_
  refine v_isub hX dJ2_fastRemove_15 ?_
  refine V.topi (y := nI (s - 1)) (pk_sub (a := s) (b := 1) (by omega)) ?_
  refine v_dup hX dJ2_fastRemove_16 rfl ?_
  refine v_istore_n (lv' := [_, _, _, _]) hX dJ2_fastRemove_17 (Nat.le_of_ble_eq_true rfl) rfl rfl ?_
  refine v_iload_n hX dJ2_fastRemove_18 rfl ?_
  refine v_icmp_le (tgt := 34) hX dJ2_fastRemove_19 rfl (fun c_19 => ?_) (fun c_19 => ?_)
  · refine v_aload_n hX dJ2_fastRemove_34 rfl ?_
    refine v_aload_n hX dJ2_fastRemove_35 rfl ?_
    refine v_iload_n hX dJ2_fastRemove_36 rfl ?_
    refine v_dup_x1 hX dJ2_fastRemove_37 rfl rfl ?_
    refine v_putw (fs' := [.int (m + 1), .ref (d), .int (nI (s - 1))]) hX dJ2_fastRemove_38 in_J2 tyJ2 tyJ2_ok nmJ2 cl_11 2 (by decide) q505 (fun _ h => h) rfl (tyJ2_ok 2 (by decide)) (rfl) (rfl) wup_s (Nat.le_of_ble_eq_true rfl) rfl ?_
    refine V.at wup_ss rfl rfl ?_
    refine v_null hX dJ2_fastRemove_41 ?_
    refine v_aastN hX dJ2_fastRemove_42 ((wup_n (wne2 hd ha (by simp))).trans hd) (vp_in_nI (by omega) hN) ?_
    have had := (wne2 ha hd (by simp))
    have hnn : s - 1 ≤ i ∨ i < s - 1 := by omega
    exact v_vret hX dJ2_fastRemove_43 hR (Nat.le_of_ble_eq_true rfl) (Nat.le_of_ble_eq_true rfl) (⟨rfl, by simp [nI_clamp (show s - 1 < 2 ^ 31 by omega)]; funext z; unfold wup; by_cases e0 : z = a <;> by_cases e1 : z = d <;> simp [e0, e1, had, Ne.symm had, lrem_0 h (by have := (nI_leI (a := s - 1) (b := i) (by omega) (by omega)).mp c_19; omega)]⟩)
  · have hlt : i < s - 1 := Nat.not_le.mp (fun z => c_19 (nI_le z (by omega)))
    refine v_aload_n hX dJ2_fastRemove_22 rfl ?_
    refine v_iload_n hX dJ2_fastRemove_23 rfl ?_
    refine v_iconst hX dJ2_fastRemove_24 ki1 ?_
    refine v_iadd hX dJ2_fastRemove_25 ?_
    refine V.topi (y := nI (i + 1)) (nI_1 i) ?_
    refine v_aload_n hX dJ2_fastRemove_26 rfl ?_
    refine v_iload_n hX dJ2_fastRemove_27 rfl ?_
    refine v_iload_n hX dJ2_fastRemove_28 rfl ?_
    refine v_iload_n hX dJ2_fastRemove_29 rfl ?_
    refine v_isub hX dJ2_fastRemove_30 ?_
    refine V.topi (y := nI (s - 1 - i)) (pk_sub (a := s - 1) (b := i) (by omega)) ?_
    refine v_copyq (C := C0) hX rfl dJ2_fastRemove_31 hg q1070 ((wup_n (wne2 hd ha (by simp))).trans hd) ((wup_n (wne2 hd ha (by simp))).trans hd) hc0 hca (by rw [nI_clamp (by omega), nI_clamp (by omega)]; exact lel_z (lel_up hel hci ha) (by omega)) (nI_pos (by omega)) (nI_pos (by omega)) (nI_pos (by omega)) (by rw [nI_clamp (by omega), nI_clamp (by omega)]; omega) (by rw [nI_clamp (by omega), nI_clamp (by omega)]; omega) (Nat.le_of_ble_eq_true rfl) (Nat.le_of_ble_eq_true rfl) ?_
    refine v_aload_n hX dJ2_fastRemove_34 rfl ?_
    refine v_aload_n hX dJ2_fastRemove_35 rfl ?_
    refine v_iload_n hX dJ2_fastRemove_36 rfl ?_
    refine v_dup_x1 hX dJ2_fastRemove_37 rfl rfl ?_
    refine v_putw (fs' := [.int (m + 1), .ref (d), .int (nI (s - 1))]) hX dJ2_fastRemove_38 in_J2 tyJ2 tyJ2_ok nmJ2 cl_11 2 (by decide) q505 (fun _ h => h) rfl (tyJ2_ok 2 (by decide)) (rfl) (rfl) ((wup_n (wne2 ha hd (by simp))).trans wup_s) (Nat.le_of_ble_eq_true rfl) rfl ?_
    refine v_null hX dJ2_fastRemove_41 ?_
    refine v_aastN hX dJ2_fastRemove_42 ((wup_n (wne2 hd ha (by simp))).trans wup_s) (vp_in_nI (by omega) hN) ?_
    have had := (wne2 ha hd (by simp))
    have hnn : s - 1 ≤ i ∨ i < s - 1 := by omega
    exact v_vret hX dJ2_fastRemove_43 hR (Nat.le_of_ble_eq_true rfl) (Nat.le_of_ble_eq_true rfl) (⟨rfl, by simp [nI_clamp (show s - 1 < 2 ^ 31 by omega), nI_clamp (show i < 2 ^ 31 by omega), nI_clamp (show i + 1 < 2 ^ 31 by omega), nI_clamp (show s - 1 - i < 2 ^ 31 by omega)]; funext z; unfold wup; by_cases e0 : z = a <;> by_cases e1 : z = d <;> simp [e0, e1, had, Ne.symm had, lrem_1 h]⟩)
theorem c2_J2_remove : CG yJ2_remove cJ2_remove 4 (Option.some (Jvm.ClassFile.FieldType.object "java/lang/Object")) 1 := ⟨q1063, q127, q1065, by decide +kernel⟩
theorem m2_J2_remove {Γ : Gm} {l : Launch} {w : Wd} (hg : gC Γ) {a d s N : Nat} {m : Int32} {f : Nat → Option Nat} {C0 : String} {T0c : u_T} {N0 ci : Nat} (hc0 : vwCl[ci]? = some (C0, T0c, N0)) (hca : Cond.castable C0 "java/lang/Object" ∈ lw_tbl) (hci : ci ≠ 11) (hel : lel w ci s f) {i : Nat} (h : i < s) (hs : s ≤ N) (hN : N < 2 ^ 31) {v : Nat} (hv : f i = some v) (ha : w (a) = some (true, .inr (11, [.int (m), .ref (d), .int (nI s)]))) (hd : w (d) = some (true, .inl (Γ.2.1 6, N, .inr (.inr (.inr (.inr (f))))))) : M0 Γ l yJ2_remove (ws_ yJ2_remove cJ2_remove 4 (Option.some (Jvm.ClassFile.FieldType.object "java/lang/Object"))) (rl 2 0 0) 0 0 [.ref (a), .int (nI i)] w (fun v9 w9 => v9 = some (.ref (v)) ∧ w9 = (wup (wup w (a) (true, .inr (11, [.int (m + 1), .ref (d), .int (nI (s - 1))]))) (d) (true, .inl (Γ.2.1 6, N, .inr (.inr (.inr (.inr (lrem f s i)))))))) := by
  refine M0.of (lv := [some (.ref (a)), some (.int (nI i)), none, none]) (by decide) (Nat.le_of_ble_eq_true rfl) 2 rfl rfl ?_
  intro X hX hR hl hG hnm
  subst hl; subst hG
  refine v_iload_n hX dJ2_remove_0 rfl ?_
  refine v_aload_n hX dJ2_remove_1 rfl ?_
  refine v_get hX dJ2_remove_2 in_J2 cl_11 2 (by decide) q505 (fun _ h => h) ha rfl ?_
  refine v_cSe hX rfl dJ2_remove_5 q790 c2_J19_checkIndex (m2_J19_checkIndex h (by omega)) rfl ⟨rfl, rfl⟩ ⟨Nat.le_of_ble_eq_true rfl, Nat.le_of_ble_eq_true rfl⟩ rfl (Nat.le_of_ble_eq_true rfl) ⟨Nat.le_of_ble_eq_true rfl, Nat.le_of_ble_eq_true rfl⟩ ?_
  refine v_pop hX dJ2_remove_8 rfl ?_
  refine v_aload_n hX dJ2_remove_9 rfl ?_
  refine v_get hX dJ2_remove_10 in_J2 cl_11 1 (by decide) q502 (fun _ h => h) ha rfl ?_
  refine v_astore_n (lv' := [_, _, _, _]) hX dJ2_remove_13 (Nat.le_of_ble_eq_true rfl) rfl rfl ?_
  refine v_aload_n hX dJ2_remove_14 rfl ?_
  refine v_iload_n hX dJ2_remove_15 rfl ?_
  refine v_aald hX dJ2_remove_16 hd (vp_in_nI (by omega) hN) ?_
  refine V.top (v := .ref (v)) (by rw [nI_clamp (by omega), hv]; rfl) ?_
  refine v_astore_n (lv' := [_, _, _, _]) hX dJ2_remove_17 (Nat.le_of_ble_eq_true rfl) rfl rfl ?_
  refine v_aload_n hX dJ2_remove_18 rfl ?_
  refine v_aload_n hX dJ2_remove_19 rfl ?_
  refine v_iload_n hX dJ2_remove_20 rfl ?_
  refine v_cVe0 hX rfl dJ2_remove_21 q1066 c2_J2_fastRemove qs19 rfl cl_11 ha (m2_J2_fastRemove hg hc0 hca hci hel h hs hN ha hd) rfl ⟨rfl, rfl⟩ ⟨Nat.le_of_ble_eq_true rfl, Nat.le_of_ble_eq_true rfl⟩ rfl (Nat.le_of_ble_eq_true rfl) ⟨Nat.le_of_ble_eq_true rfl, Nat.le_of_ble_eq_true rfl⟩ ?_
  refine v_aload_n hX dJ2_remove_24 rfl ?_
  exact v_aret hX dJ2_remove_25 hR (Nat.le_of_ble_eq_true rfl) (Nat.le_of_ble_eq_true rfl) (by first | exact Or.inl ⟨_, rfl⟩ | exact Or.inr ⟨_, rfl⟩) (by first | exact Or.inl rfl | exact Or.inr ⟨_, rfl⟩) (⟨rfl, rfl⟩)
theorem c2_J2_rangeCheckForAdd : CG yJ2_rangeCheckForAdd cJ2_rangeCheckForAdd 2 none 1 := ⟨q1077, q127, q1078, by decide +kernel⟩
theorem m2_J2_rangeCheckForAdd {Γ : Gm} {l : Launch} {w : Wd} {a : Nat} {m : Int32} {d : Value} {i s : Nat} (h : i ≤ s) (hs : s < 2 ^ 31) (ha : w (a) = some (true, .inr (11, [.int (m), d, .int (nI s)]))) : M0 Γ l yJ2_rangeCheckForAdd (ws_ yJ2_rangeCheckForAdd cJ2_rangeCheckForAdd 2 none) (rl 0 0 0) 0 0 [.ref (a), .int (nI i)] w (fun v9 w9 => v9 = none ∧ w9 = w) := by
  refine M0.of (lv := [some (.ref (a)), some (.int (nI i))]) (by decide) (Nat.le_of_ble_eq_true rfl) 0 rfl rfl ?_
  intro X hX hR hl hG hnm
  subst hl; subst hG
  refine v_iload_n hX dJ2_rangeCheckForAdd_0 rfl ?_
  refine v_aload_n hX dJ2_rangeCheckForAdd_1 rfl ?_
  refine v_get hX dJ2_rangeCheckForAdd_2 in_J2 cl_11 2 (by decide) q505 (fun _ h => h) ha rfl ?_
  refine v_icmp_gt_f (tgt := 12) hX dJ2_rangeCheckForAdd_5 rfl (Int32.not_lt.mpr (nI_le h hs)) ?_
  refine v_iload_n hX dJ2_rangeCheckForAdd_8 rfl ?_
  refine v_if_ge_t (tgt := 25) hX dJ2_rangeCheckForAdd_9 rfl (nI_pos' (by omega)) ?_
  exact v_vret hX dJ2_rangeCheckForAdd_25 hR (Nat.le_of_ble_eq_true rfl) (Nat.le_of_ble_eq_true rfl) (⟨rfl, rfl⟩)
theorem c2_J2_add_3 : CG yJ2_add_3 cJ2_add_3 5 none 2 := ⟨q1072, q127, q1074, by decide +kernel⟩
theorem m2_J2_add_3 {Γ : Gm} {l : Launch} {w : Wd} (hg : gC Γ) {a d s N : Nat} {m : Int32} {f : Nat → Option Nat} {C0 : String} {T0c : u_T} {N0 ci : Nat} (hc0 : vwCl[ci]? = some (C0, T0c, N0)) (hca : Cond.castable C0 "java/lang/Object" ∈ lw_tbl) (hci : ci ≠ 11) {e : Nat} {fe : List Value} (hea : e ≠ a) (hel : lel w ci s f) {i : Nat} (h : i ≤ s) (hs : s < N) (hN : N < 2 ^ 31) (ha : w (a) = some (true, .inr (11, [.int (m), .ref (d), .int (nI s)]))) (hd : w (d) = some (true, .inl (Γ.2.1 6, N, .inr (.inr (.inr (.inr (f))))))) (he : w (e) = some (true, .inr (ci, fe))) : M0 Γ l yJ2_add_3 (ws_ yJ2_add_3 cJ2_add_3 5 none) (rl 1 0 0) 0 0 [.ref (a), .int (nI i), .ref (e)] w (fun v9 w9 => v9 = none ∧ w9 = (wup (wup w (a) (true, .inr (11, [.int (m + 1), .ref (d), .int (nI (s + 1))]))) (d) (true, .inl (Γ.2.1 6, N, .inr (.inr (.inr (.inr (lins f s i e)))))))) := by
  refine M0.of (lv := [some (.ref (a)), some (.int (nI i)), some (.ref (e)), none, none]) (by decide) (Nat.le_of_ble_eq_true rfl) 2 rfl rfl ?_
  intro X hX hR hl hG hnm
  subst hl; subst hG
  refine v_aload_n hX dJ2_add_3_0 rfl ?_
  refine v_iload_n hX dJ2_add_3_1 rfl ?_
  refine v_cVe0 hX rfl dJ2_add_3_2 q1075 c2_J2_rangeCheckForAdd qs20 rfl cl_11 ha (m2_J2_rangeCheckForAdd h (by omega) ha) rfl ⟨rfl, rfl⟩ ⟨Nat.le_of_ble_eq_true rfl, Nat.le_of_ble_eq_true rfl⟩ rfl (Nat.le_of_ble_eq_true rfl) ⟨Nat.le_of_ble_eq_true rfl, Nat.le_of_ble_eq_true rfl⟩ ?_
  refine v_aload_n hX dJ2_add_3_5 rfl ?_
  refine v_dup hX dJ2_add_3_6 rfl ?_
  refine v_get hX dJ2_add_3_7 in_J2 cl_11 0 (by decide) q509 (u_same (hX.1.2.2.2.2 _ q508)) ha rfl ?_
  refine v_iconst hX dJ2_add_3_10 ki1 ?_
  refine v_iadd hX dJ2_add_3_11 ?_
  refine v_putw (fs' := [.int (m + 1), .ref (d), .int (nI s)]) hX dJ2_add_3_12 in_J2 tyJ2 tyJ2_ok nmJ2 cl_11 0 (by decide) q509 (u_same (hX.1.2.2.2.2 _ q508)) rfl (tyJ2_ok 0 (by decide)) (rfl) (rfl) ha (Nat.le_of_ble_eq_true rfl) rfl ?_
  refine v_aload_n hX dJ2_add_3_15 rfl ?_
  refine v_get hX dJ2_add_3_16 in_J2 cl_11 2 (by decide) q505 (fun _ h => h) wup_s rfl ?_
  refine v_dup hX dJ2_add_3_19 rfl ?_
  refine v_istore_n (lv' := [_, _, _, _, _]) hX dJ2_add_3_20 (Nat.le_of_ble_eq_true rfl) rfl rfl ?_
  refine v_aload_n hX dJ2_add_3_21 rfl ?_
  refine v_get hX dJ2_add_3_22 in_J2 cl_11 1 (by decide) q502 (fun _ h => h) wup_s rfl ?_
  refine v_dup hX dJ2_add_3_25 rfl ?_
  refine v_astore (lv' := [_, _, _, _, _]) hX dJ2_add_3_26 (Nat.le_of_ble_eq_true rfl) rfl rfl ?_
  refine v_alen (ti := 6) hX dJ2_add_3_28 ((wup_n (wne2 hd ha (by simp))).trans hd) rfl rfl ?_
  refine v_icmp_ne_t (tgt := 38) hX dJ2_add_3_29 rfl (fun h => absurd ((nI_eq (by omega) hN).mp h) (by omega)) ?_
  refine v_aload hX dJ2_add_3_38 rfl ?_
  refine v_iload_n hX dJ2_add_3_40 rfl ?_
  refine v_aload hX dJ2_add_3_41 rfl ?_
  refine v_iload_n hX dJ2_add_3_43 rfl ?_
  refine v_iconst hX dJ2_add_3_44 ki1 ?_
  refine v_iadd hX dJ2_add_3_45 ?_
  refine V.topi (y := nI (i + 1)) (nI_1 i) ?_
  refine v_iload_n hX dJ2_add_3_46 rfl ?_
  refine v_iload_n hX dJ2_add_3_47 rfl ?_
  refine v_isub hX dJ2_add_3_48 ?_
  refine V.topi (y := nI (s - i)) (pk_sub (a := s) (b := i) h) ?_
  refine v_copyq (C := C0) hX rfl dJ2_add_3_49 hg q1070 ((wup_n (wne2 hd ha (by simp))).trans hd) ((wup_n (wne2 hd ha (by simp))).trans hd) hc0 hca (by rw [nI_clamp (by omega), nI_clamp (by omega)]; exact lel_z (lel_up hel hci ha) (by omega)) (nI_pos (by omega)) (nI_pos (by omega)) (nI_pos (by omega)) (by rw [nI_clamp (by omega), nI_clamp (by omega)]; omega) (by rw [nI_clamp (by omega), nI_clamp (by omega)]; omega) (Nat.le_of_ble_eq_true rfl) (Nat.le_of_ble_eq_true rfl) ?_
  refine v_aload hX dJ2_add_3_52 rfl ?_
  refine v_iload_n hX dJ2_add_3_54 rfl ?_
  refine v_aload_n hX dJ2_add_3_55 rfl ?_
  refine v_aast hX dJ2_add_3_56 hg wup_s hc0 hca ((wup_n (wne2 he hd (by simp))).trans ((wup_n hea).trans he)) (vp_in_nI (by omega) hN) ?_
  refine V.at wup_ss rfl rfl ?_
  refine v_aload_n hX dJ2_add_3_57 rfl ?_
  refine v_iload_n hX dJ2_add_3_58 rfl ?_
  refine v_iconst hX dJ2_add_3_59 ki1 ?_
  refine v_iadd hX dJ2_add_3_60 ?_
  refine V.topi (y := nI (s + 1)) (nI_1 s) ?_
  refine v_putw (fs' := [.int (m + 1), .ref (d), .int (nI (s + 1))]) hX dJ2_add_3_61 in_J2 tyJ2 tyJ2_ok nmJ2 cl_11 2 (by decide) q505 (fun _ h => h) rfl (tyJ2_ok 2 (by decide)) (rfl) (rfl) ((wup_n (wne2 ha hd (by simp))).trans wup_s) (Nat.le_of_ble_eq_true rfl) rfl ?_
  have had := (wne2 ha hd (by simp))
  exact v_vret hX dJ2_add_3_64 hR (Nat.le_of_ble_eq_true rfl) (Nat.le_of_ble_eq_true rfl) (⟨rfl, by simp [nI_clamp (show i < 2 ^ 31 by omega), nI_clamp (show i + 1 < 2 ^ 31 by omega), nI_clamp (show s - i < 2 ^ 31 by omega)]; funext z; unfold wup; by_cases e0 : z = a <;> by_cases e1 : z = d <;> simp [e0, e1, had, Ne.symm had, lins_1 h]⟩)
theorem c2_J22_init : CG yJ22_init cJ22_init 2 none 1 := ⟨q924, q159, q925, by decide +kernel⟩
theorem m2_J22_init {Γ : Gm} {l : Launch} {w : Wd} (hg : gC Γ) {q a : Nat} {m : Int32} {d s : Value} (hq : w (q) = some (true, .inr (13, [.int (0), .int (0), .int (0), .null]))) (ha : w (a) = some (true, .inr (11, [.int (m), d, s]))) : M0 Γ l yJ22_init (ws_ yJ22_init cJ22_init 2 none) (rl 1 0 0) 0 0 [.ref (q), .ref (a)] w (fun v9 w9 => v9 = none ∧ w9 = (wup w (q) (true, .inr (13, [.int (0), .int (-1), .int (m), .ref (a)])))) := by
  refine M0.of (lv := [some (.ref (q)), some (.ref (a))]) (by decide) (Nat.le_of_ble_eq_true rfl) 0 rfl rfl ?_
  intro X hX hR hl hG hnm
  subst hl; subst hG
  refine v_aload_n hX dJ22_init_0 rfl ?_
  refine v_aload_n hX dJ22_init_1 rfl ?_
  refine v_putFw (fs' := [.int (0), .int (0), .int (0), .ref (a)]) hX dJ22_init_2 in_J22 tyJ22 tyJ22_ok nmJ22 cl_13 3 (by decide) q930 (fun _ h => h) rfl hnm rfl (tyJ22_ok 3 (by decide)) (rfl) (rfl) hq (Nat.le_of_ble_eq_true rfl) rfl ?_
  refine v_aload_n hX dJ22_init_5 rfl ?_
  refine v_obj hX rfl dJ22_init_6 q926 (Nat.le_of_ble_eq_true rfl) (Nat.le_of_ble_eq_true rfl) ?_
  refine v_aload_n hX dJ22_init_9 rfl ?_
  refine v_iconst hX dJ22_init_10 kim1 ?_
  refine v_putw (fs' := [.int (0), .int (-1), .int (0), .ref (a)]) hX dJ22_init_11 in_J22 tyJ22 tyJ22_ok nmJ22 cl_13 1 (by decide) q928 (fun _ h => h) rfl (tyJ22_ok 1 (by decide)) (rfl) (rfl) wup_s (Nat.le_of_ble_eq_true rfl) rfl ?_
  refine V.at wup_ss rfl rfl ?_
  refine v_aload_n hX dJ22_init_14 rfl ?_
  refine v_aload_n hX dJ22_init_15 rfl ?_
  refine v_get hX dJ22_init_16 in_J22 cl_13 3 (by decide) q930 (fun _ h => h) wup_s rfl ?_
  refine v_get hX dJ22_init_19 in_J2 cl_11 0 (by decide) q507 (u_same (hX.1.2.2.2.2 _ q508)) ((wup_n (wne2 ha hq (by simp))).trans ha) rfl ?_
  refine v_putw (fs' := [.int (0), .int (-1), .int (m), .ref (a)]) hX dJ22_init_22 in_J22 tyJ22 tyJ22_ok nmJ22 cl_13 2 (by decide) q929 (fun _ h => h) rfl (tyJ22_ok 2 (by decide)) (rfl) (rfl) wup_s (Nat.le_of_ble_eq_true rfl) rfl ?_
  refine V.at wup_ss rfl rfl ?_
  exact v_vret hX dJ22_init_25 hR (Nat.le_of_ble_eq_true rfl) (Nat.le_of_ble_eq_true rfl) (⟨rfl, rfl⟩)
theorem c2_J2_iterator : CG yJ2_iterator cJ2_iterator 1 (Option.some (Jvm.ClassFile.FieldType.object "java/util/Iterator")) 0 := ⟨q918, q127, q920, by decide +kernel⟩
theorem m2_J2_iterator {Γ : Gm} {l : Launch} {w : Wd} (hg : gC Γ) {a : Nat} {m : Int32} {d s : Value} (ha : w (a) = some (true, .inr (11, [.int (m), d, s]))) : M0 Γ l yJ2_iterator (ws_ yJ2_iterator cJ2_iterator 1 (Option.some (Jvm.ClassFile.FieldType.object "java/util/Iterator"))) (rl 2 1 4) 1 4 [.ref (a)] w (fun v9 w9 => ∃ q : Nat, w q = none ∧ v9 = some (.ref q) ∧ w9 = wup w q (true, .inr (13, [.int (nI 0), .int (-1), .int (m), .ref (a)]))) := by
  refine M0.of (lv := [some (.ref (a))]) (by decide) (Nat.le_of_ble_eq_true rfl) 0 rfl rfl ?_
  intro X hX hR hl hG hnm
  subst hl; subst hG
  refine v_new (fs := [.int (0), .int (0), .int (0), .null]) hX dJ2_iterator_0 in_J22 tyJ22 tyJ22_ok q921 q922 q159 cl_13 (by decide) (Nat.le_of_ble_eq_true rfl) (Nat.le_of_ble_eq_true rfl) (fun q1 hq1 => ?_)
  refine v_dup hX dJ2_iterator_3 rfl ?_
  refine v_aload_n hX dJ2_iterator_4 rfl ?_
  refine v_cIe0 hX rfl dJ2_iterator_5 q923 c2_J22_init rfl (m2_J22_init hg wup_s ((wup_n (wne ha hq1)).trans ha)) rfl ⟨rfl, rfl⟩ ⟨Nat.le_of_ble_eq_true rfl, Nat.le_of_ble_eq_true rfl⟩ rfl (Nat.le_of_ble_eq_true rfl) ⟨Nat.le_of_ble_eq_true rfl, Nat.le_of_ble_eq_true rfl⟩ ?_
  refine V.at wup_ss rfl rfl ?_
  exact v_aret hX dJ2_iterator_8 hR (Nat.le_of_ble_eq_true rfl) (Nat.le_of_ble_eq_true rfl) (by first | exact Or.inl ⟨_, rfl⟩ | exact Or.inr ⟨_, rfl⟩) (by first | exact Or.inl rfl | exact Or.inr ⟨_, rfl⟩) (⟨q1, hq1, rfl, by rw [nI_0]⟩)
theorem c2_J22_hasNext : CG yJ22_hasNext cJ22_hasNext 1 (some .boolean) 0 := ⟨q947, q159, q949, by decide +kernel⟩
theorem m2_J22_hasNext {Γ : Gm} {l : Launch} {w : Wd} (hg : gC Γ) {q a c s d : Nat} {l0 m : Int32} (hc : c < 2 ^ 31) (hs : s < 2 ^ 31) (hq : w (q) = some (true, .inr (13, [.int (nI c), .int (l0), .int (m), .ref (a)]))) (ha : w (a) = some (true, .inr (11, [.int (m), .ref (d), .int (nI s)]))) : M0 Γ l yJ22_hasNext (ws_ yJ22_hasNext cJ22_hasNext 1 (some .boolean)) (rl 0 0 0) 0 0 [.ref (q)] w (fun v9 w9 => v9 = some (.int (bi (¬ c = s))) ∧ w9 = w) := by
  refine M0.of (lv := [some (.ref (q))]) (by decide) (Nat.le_of_ble_eq_true rfl) 0 rfl rfl ?_
  intro X hX hR hl hG hnm
  subst hl; subst hG
  refine v_aload_n hX dJ22_hasNext_0 rfl ?_
  refine v_get hX dJ22_hasNext_1 in_J22 cl_13 0 (by decide) q927 (fun _ h => h) hq rfl ?_
  refine v_aload_n hX dJ22_hasNext_4 rfl ?_
  refine v_get hX dJ22_hasNext_5 in_J22 cl_13 3 (by decide) q930 (fun _ h => h) hq rfl ?_
  refine v_getM hX dJ22_hasNext_8 hg in_J2 cl_11 2 (by decide) q504 (fun _ h => h) ha rfl ?_
  refine v_icmp_eq (tgt := 18) hX dJ22_hasNext_11 rfl (fun c_11 => ?_) (fun c_11 => ?_)
  · refine v_iconst hX dJ22_hasNext_18 ki0 ?_
    exact v_zret hX dJ22_hasNext_19 hR (Nat.le_of_ble_eq_true rfl) (Nat.le_of_ble_eq_true rfl) (rfl) (⟨by simp [bi, nI_eq hc hs] at *; simp [*], rfl⟩)
  · refine v_iconst hX dJ22_hasNext_14 ki1 ?_
    refine v_goto (tgt := 19) hX dJ22_hasNext_15 rfl ?_
    exact v_zret hX dJ22_hasNext_19 hR (Nat.le_of_ble_eq_true rfl) (Nat.le_of_ble_eq_true rfl) (rfl) (⟨by simp [bi, nI_eq hc hs] at *; simp [*], rfl⟩)
theorem c2_J22_checkForComodification : CG yJ22_checkForComodification cJ22_checkForComodification 1 none 0 := ⟨q960, q159, q962, by decide +kernel⟩
theorem m2_J22_checkForComodification {Γ : Gm} {l : Launch} {w : Wd} (hg : gC Γ) {q a c s d : Nat} {l0 m : Int32} (hq : w (q) = some (true, .inr (13, [.int (nI c), .int (l0), .int (m), .ref (a)]))) (ha : w (a) = some (true, .inr (11, [.int (m), .ref (d), .int (nI s)]))) : M0 Γ l yJ22_checkForComodification (ws_ yJ22_checkForComodification cJ22_checkForComodification 1 none) (rl 0 0 0) 0 0 [.ref (q)] w (fun v9 w9 => v9 = none ∧ w9 = w) := by
  refine M0.of (lv := [some (.ref (q))]) (by decide) (Nat.le_of_ble_eq_true rfl) 0 rfl rfl ?_
  intro X hX hR hl hG hnm
  subst hl; subst hG
  refine v_aload_n hX dJ22_checkForComodification_0 rfl ?_
  refine v_get hX dJ22_checkForComodification_1 in_J22 cl_13 3 (by decide) q930 (fun _ h => h) hq rfl ?_
  refine v_get hX dJ22_checkForComodification_4 in_J2 cl_11 0 (by decide) q507 (u_same (hX.1.2.2.2.2 _ q508)) ha rfl ?_
  refine v_aload_n hX dJ22_checkForComodification_7 rfl ?_
  refine v_get hX dJ22_checkForComodification_8 in_J22 cl_13 2 (by decide) q929 (fun _ h => h) hq rfl ?_
  refine v_icmp_eq_t (tgt := 22) hX dJ22_checkForComodification_11 rfl (rfl) ?_
  exact v_vret hX dJ22_checkForComodification_22 hR (Nat.le_of_ble_eq_true rfl) (Nat.le_of_ble_eq_true rfl) (⟨rfl, rfl⟩)
theorem c2_J22_next : CG yJ22_next cJ22_next 3 (Option.some (Jvm.ClassFile.FieldType.object "java/lang/Object")) 0 := ⟨q956, q159, q958, by decide +kernel⟩
theorem m2_J22_next {Γ : Gm} {l : Launch} {w : Wd} (hg : gC Γ) {q a c s d N v : Nat} {l0 m : Int32} {f : Nat → Option Nat} (hc : c < s) (hs : s ≤ N) (hN : N < 2 ^ 31) (hv : f c = some v) (hq : w (q) = some (true, .inr (13, [.int (nI c), .int (l0), .int (m), .ref (a)]))) (ha : w (a) = some (true, .inr (11, [.int (m), .ref (d), .int (nI s)]))) (hd : w (d) = some (true, .inl (Γ.2.1 6, N, .inr (.inr (.inr (.inr (f))))))) : M0 Γ l yJ22_next (ws_ yJ22_next cJ22_next 3 (Option.some (Jvm.ClassFile.FieldType.object "java/lang/Object"))) (rl 1 0 0) 0 0 [.ref (q)] w (fun v9 w9 => v9 = some (.ref (v)) ∧ w9 = (wup w (q) (true, .inr (13, [.int (nI (c + 1)), .int (nI c), .int (m), .ref (a)])))) := by
  refine M0.of (lv := [some (.ref (q)), none, none]) (by decide) (Nat.le_of_ble_eq_true rfl) 2 rfl rfl ?_
  intro X hX hR hl hG hnm
  subst hl; subst hG
  refine v_aload_n hX dJ22_next_0 rfl ?_
  refine v_cVe0 hX rfl dJ22_next_1 q959 c2_J22_checkForComodification q961 rfl cl_13 hq (m2_J22_checkForComodification hg hq ha) rfl ⟨rfl, rfl⟩ ⟨Nat.le_of_ble_eq_true rfl, Nat.le_of_ble_eq_true rfl⟩ rfl (Nat.le_of_ble_eq_true rfl) ⟨Nat.le_of_ble_eq_true rfl, Nat.le_of_ble_eq_true rfl⟩ ?_
  refine v_aload_n hX dJ22_next_4 rfl ?_
  refine v_get hX dJ22_next_5 in_J22 cl_13 0 (by decide) q927 (fun _ h => h) hq rfl ?_
  refine v_istore_n (lv' := [_, _, _]) hX dJ22_next_8 (Nat.le_of_ble_eq_true rfl) rfl rfl ?_
  refine v_iload_n hX dJ22_next_9 rfl ?_
  refine v_aload_n hX dJ22_next_10 rfl ?_
  refine v_get hX dJ22_next_11 in_J22 cl_13 3 (by decide) q930 (fun _ h => h) hq rfl ?_
  refine v_getM hX dJ22_next_14 hg in_J2 cl_11 2 (by decide) q504 (fun _ h => h) ha rfl ?_
  refine v_icmp_lt_t (tgt := 28) hX dJ22_next_17 rfl (nI_lt hc (by omega)) ?_
  refine v_aload_n hX dJ22_next_28 rfl ?_
  refine v_get hX dJ22_next_29 in_J22 cl_13 3 (by decide) q930 (fun _ h => h) hq rfl ?_
  refine v_get hX dJ22_next_32 in_J2 cl_11 1 (by decide) q503 (fun _ h => h) ha rfl ?_
  refine v_astore_n (lv' := [_, _, _]) hX dJ22_next_35 (Nat.le_of_ble_eq_true rfl) rfl rfl ?_
  refine v_iload_n hX dJ22_next_36 rfl ?_
  refine v_aload_n hX dJ22_next_37 rfl ?_
  refine v_alen (ti := 6) hX dJ22_next_38 hd rfl rfl ?_
  refine v_icmp_lt_t (tgt := 50) hX dJ22_next_39 rfl (nI_lt (Nat.lt_of_lt_of_le hc hs) hN) ?_
  refine v_aload_n hX dJ22_next_50 rfl ?_
  refine v_iload_n hX dJ22_next_51 rfl ?_
  refine v_iconst hX dJ22_next_52 ki1 ?_
  refine v_iadd hX dJ22_next_53 ?_
  refine V.topi (y := nI (c + 1)) (nI_1 c) ?_
  refine v_putw (fs' := [.int (nI (c + 1)), .int (l0), .int (m), .ref (a)]) hX dJ22_next_54 in_J22 tyJ22 tyJ22_ok nmJ22 cl_13 0 (by decide) q927 (fun _ h => h) rfl (tyJ22_ok 0 (by decide)) (rfl) (rfl) hq (Nat.le_of_ble_eq_true rfl) rfl ?_
  refine v_aload_n hX dJ22_next_57 rfl ?_
  refine v_aload_n hX dJ22_next_58 rfl ?_
  refine v_iload_n hX dJ22_next_59 rfl ?_
  refine v_dup_x1 hX dJ22_next_60 rfl rfl ?_
  refine v_putw (fs' := [.int (nI (c + 1)), .int (nI c), .int (m), .ref (a)]) hX dJ22_next_61 in_J22 tyJ22 tyJ22_ok nmJ22 cl_13 1 (by decide) q928 (fun _ h => h) rfl (tyJ22_ok 1 (by decide)) (rfl) (rfl) wup_s (Nat.le_of_ble_eq_true rfl) rfl ?_
  refine V.at wup_ss rfl rfl ?_
  refine v_aald hX dJ22_next_64 ((wup_n (wne2 hd hq (by simp))).trans hd) (vp_in_nI (by omega) hN) ?_
  refine V.top (v := .ref (v)) (by rw [nI_clamp (by omega), hv]; rfl) ?_
  exact v_aret hX dJ22_next_65 hR (Nat.le_of_ble_eq_true rfl) (Nat.le_of_ble_eq_true rfl) (by first | exact Or.inl ⟨_, rfl⟩ | exact Or.inr ⟨_, rfl⟩) (by first | exact Or.inl rfl | exact Or.inr ⟨_, rfl⟩) (⟨rfl, rfl⟩)
