/-! deques: new, clear -/
set_option maxRecDepth 100000
theorem kb17 : (Int8.ofInt (17)).toInt32 = 17 := by decide +kernel
theorem w_upd {w w1 : Wd} {e : Nat} {c : Bool × va_E} (h1 : w1 e = some c) (hk : ∀ a, a ≠ e → w1 a = w a) : w1 = wup w e c := by
  funext a
  by_cases ha : a = e
  · rw [ha, wup_s]; exact h1
  · rw [wup_n ha]; exact hk a ha
theorem c2_J17_init : CG yJ17_init cJ17_init 1 none 0 := ⟨q684, q149, q685, by decide +kernel⟩
theorem m2_J17_init {Γ : Gm} {l : Launch} {w : Wd} (hg : gC Γ) {q : Nat} (hq : w (q) = some (true, .inr (12, [.null, .int (0), .int (0)]))) : M0 Γ l yJ17_init (ws_ yJ17_init cJ17_init 1 none) (rl 2 1 17) 1 17 [.ref (q)] w (fun v9 w9 => v9 = none ∧ ∃ e : Nat, w e = none ∧ w9 = wup (wup w e (true, .inl (Γ.2.1 6, 17, .inr (.inr (.inr (.inr (fun _ => none))))))) q (true, .inr (12, [.ref (e), .int (nI 0), .int (nI 0)]))) := by
  refine M0.of (lv := [some (.ref (q))]) (by decide) (Nat.le_of_ble_eq_true rfl) 0 rfl rfl ?_
  intro X hX hR hl hG hnm
  subst hl; subst hG
  refine v_aload_n hX dJ17_init_0 rfl ?_
  refine v_cIe0 hX rfl dJ17_init_1 q686 c2_J0_init rfl (m2_J0_init (q)) rfl ⟨rfl, rfl⟩ ⟨Nat.le_of_ble_eq_true rfl, Nat.le_of_ble_eq_true rfl⟩ rfl (Nat.le_of_ble_eq_true rfl) ⟨Nat.le_of_ble_eq_true rfl, Nat.le_of_ble_eq_true rfl⟩ ?_
  refine v_aload_n hX dJ17_init_4 rfl ?_
  refine v_bipush hX dJ17_init_5 kb17 ?_
  refine v_anew (N := 17) hX dJ17_init_7 hg q687 (by decide) (by decide) (Nat.le_of_ble_eq_true rfl) (Nat.le_of_ble_eq_true rfl) (Nat.le_of_ble_eq_true rfl) (fun q1 hq1 => ?_)
  refine v_putw (fs' := [.ref (q1), .int (0), .int (0)]) hX dJ17_init_10 in_J17 tyJ17 tyJ17_ok nmJ17 cl_12 0 (by decide) q688 (fun _ h => h) rfl (tyJ17_ok 0 (by decide)) (rfl) (rfl) ((wup_n (wne hq hq1)).trans hq) (Nat.le_of_ble_eq_true rfl) rfl ?_
  exact v_vret hX dJ17_init_13 hR (Nat.le_of_ble_eq_true rfl) (Nat.le_of_ble_eq_true rfl) (⟨rfl, q1, hq1, by rw [nI_0]⟩)
theorem c2_J17_circularClear : CS yJ17_circularClear cJ17_circularClear 4 none 3 := ⟨q1499, q149, q1500, by decide +kernel⟩
theorem m2_J17_circularClear {Γ : Gm} {l : Launch} {w : Wd} {e h t : Nat} {g : Nat → Option Nat} (hh : h < 17) (ht : t < 17) (he : w (e) = some (true, .inl (Γ.2.1 6, 17, .inr (.inr (.inr (.inr (g))))))) : M0 Γ l yJ17_circularClear (ws_ yJ17_circularClear cJ17_circularClear 4 none) (rl 0 0 0) 0 0 [.ref (e), .int (nI h), .int (nI t)] w (fun v9 w9 => v9 = none ∧ ∃ g1 : Nat → Option Nat, w9 = wup w e (true, .inl (Γ.2.1 6, 17, .inr (.inr (.inr (.inr (g1))))))) := by
  refine M0.of (lv := [some (.ref (e)), some (.int (nI h)), some (.int (nI t)), none]) (by decide) (Nat.le_of_ble_eq_true rfl) 1 rfl rfl ?_
  intro X hX hR hl hG hnm
  subst hl; subst hG
  have H2 : ∀ i, i ≤ t → ∀ (w1 : Wd) (g : Nat → Option Nat), w1 e = some (true, .inl ((xG X).2.1 6, 17, .inr (.inr (.inr (.inr (g)))))) → (∀ a, a ≠ e → w1 a = w a) → V X w1 0 0 12 [some (.ref e), some (.int (nI (i))), some (.int (nI t)), some (.int (nI t))] [] := by
    refine loop_up t (fun i => ∀ (w1 : Wd) (g : Nat → Option Nat), w1 e = some (true, .inl ((xG X).2.1 6, 17, .inr (.inr (.inr (.inr (g)))))) → (∀ a, a ≠ e → w1 a = w a) → V X w1 0 0 12 [some (.ref e), some (.int (nI (i))), some (.int (nI t)), some (.int (nI t))] []) ?_ ?_
    · intro w1 g h1 hk
      refine v_iload_n hX dJ17_circularClear_12 rfl ?_
      refine v_iload_n hX dJ17_circularClear_13 rfl ?_
      refine v_icmp_ge_t (tgt := 27) hX dJ17_circularClear_14 rfl (Int32.le_refl _) ?_
      refine v_iload_n hX dJ17_circularClear_27 rfl ?_
      refine v_iload_n hX dJ17_circularClear_28 rfl ?_
      refine v_icmp_ne_f (tgt := 35) hX dJ17_circularClear_29 rfl (rfl) ?_
      refine v_goto (tgt := 42) hX dJ17_circularClear_32 rfl ?_
      exact v_vret hX dJ17_circularClear_42 hR (Nat.le_of_ble_eq_true rfl) (Nat.le_of_ble_eq_true rfl) (⟨rfl, g, w_upd h1 hk⟩)
    · intro i hi ih w1 g h1 hk
      have ih : ∀ (w1 : Wd) (g : Nat → Option Nat), w1 e = some (true, .inl ((xG X).2.1 6, 17, .inr (.inr (.inr (.inr (g)))))) → (∀ a, a ≠ e → w1 a = w a) → V X w1 0 0 12 [some (.ref e), some (.int (nI (i + 1))), some (.int (nI t)), some (.int (nI t))] [] := ih
      refine v_iload_n hX dJ17_circularClear_12 rfl ?_
      refine v_iload_n hX dJ17_circularClear_13 rfl ?_
      refine v_icmp_ge_f (tgt := 27) hX dJ17_circularClear_14 rfl (nI_ge hi (by omega)) ?_
      refine v_aload_n hX dJ17_circularClear_17 rfl ?_
      refine v_iload_n hX dJ17_circularClear_18 rfl ?_
      refine v_null hX dJ17_circularClear_19 ?_
      refine v_aastN hX dJ17_circularClear_20 h1 (vp_in_nI (by omega) (by decide)) ?_
      refine v_iinc (lv' := [_, _, _, _]) hX dJ17_circularClear_21 rfl ki1 rfl rfl ?_
      refine v_goto (tgt := 12) hX dJ17_circularClear_24 rfl ?_
      exact V.at rfl (by rw [nI_1]) rfl (ih _ _ wup_s (fun a ha => (wup_n ha).trans (hk a ha)))
  have H1 : ∀ i, i ≤ 17 → ∀ (w1 : Wd) (g : Nat → Option Nat), w1 e = some (true, .inl ((xG X).2.1 6, 17, .inr (.inr (.inr (.inr (g)))))) → (∀ a, a ≠ e → w1 a = w a) → V X w1 0 0 12 [some (.ref e), some (.int (nI (i))), some (.int (nI t)), some (.int (nI 17))] [] := by
    refine loop_up 17 (fun i => ∀ (w1 : Wd) (g : Nat → Option Nat), w1 e = some (true, .inl ((xG X).2.1 6, 17, .inr (.inr (.inr (.inr (g)))))) → (∀ a, a ≠ e → w1 a = w a) → V X w1 0 0 12 [some (.ref e), some (.int (nI (i))), some (.int (nI t)), some (.int (nI 17))] []) ?_ ?_
    · intro w1 g h1 hk
      refine v_iload_n hX dJ17_circularClear_12 rfl ?_
      refine v_iload_n hX dJ17_circularClear_13 rfl ?_
      refine v_icmp_ge_t (tgt := 27) hX dJ17_circularClear_14 rfl (Int32.le_refl _) ?_
      refine v_iload_n hX dJ17_circularClear_27 rfl ?_
      refine v_iload_n hX dJ17_circularClear_28 rfl ?_
      refine v_icmp_ne_t (tgt := 35) hX dJ17_circularClear_29 rfl (fun z => absurd ((nI_eq (by decide) (by omega)).mp z) (by omega)) ?_
      refine v_iconst hX dJ17_circularClear_35 ki0 ?_
      refine v_istore_n (lv' := [_, _, _, _]) hX dJ17_circularClear_36 (Nat.le_of_ble_eq_true rfl) rfl rfl ?_
      refine v_iload_n hX dJ17_circularClear_37 rfl ?_
      refine v_istore_n (lv' := [_, _, _, _]) hX dJ17_circularClear_38 (Nat.le_of_ble_eq_true rfl) rfl rfl ?_
      refine v_goto (tgt := 12) hX dJ17_circularClear_39 rfl ?_
      exact V.at rfl (by rw [nI_0]) rfl (H2 0 (Nat.zero_le _) w1 g h1 hk)
    · intro i hi ih w1 g h1 hk
      have ih : ∀ (w1 : Wd) (g : Nat → Option Nat), w1 e = some (true, .inl ((xG X).2.1 6, 17, .inr (.inr (.inr (.inr (g)))))) → (∀ a, a ≠ e → w1 a = w a) → V X w1 0 0 12 [some (.ref e), some (.int (nI (i + 1))), some (.int (nI t)), some (.int (nI 17))] [] := ih
      refine v_iload_n hX dJ17_circularClear_12 rfl ?_
      refine v_iload_n hX dJ17_circularClear_13 rfl ?_
      refine v_icmp_ge_f (tgt := 27) hX dJ17_circularClear_14 rfl (nI_ge hi (by omega)) ?_
      refine v_aload_n hX dJ17_circularClear_17 rfl ?_
      refine v_iload_n hX dJ17_circularClear_18 rfl ?_
      refine v_null hX dJ17_circularClear_19 ?_
      refine v_aastN hX dJ17_circularClear_20 h1 (vp_in_nI (by omega) (by decide)) ?_
      refine v_iinc (lv' := [_, _, _, _]) hX dJ17_circularClear_21 rfl ki1 rfl rfl ?_
      refine v_goto (tgt := 12) hX dJ17_circularClear_24 rfl ?_
      exact V.at rfl (by rw [nI_1]) rfl (ih _ _ wup_s (fun a ha => (wup_n ha).trans (hk a ha)))
  refine v_iload_n hX dJ17_circularClear_0 rfl ?_
  refine v_iload_n hX dJ17_circularClear_1 rfl ?_
  refine v_icmp_gt (tgt := 9) hX dJ17_circularClear_2 rfl (fun c_2 => ?_) (fun c_2 => ?_)
  · refine v_aload_n hX dJ17_circularClear_9 rfl ?_
    refine v_alen (ti := 6) hX dJ17_circularClear_10 he rfl rfl ?_
    refine v_istore_n (lv' := [_, _, _, _]) hX dJ17_circularClear_11 (Nat.le_of_ble_eq_true rfl) rfl rfl ?_
    exact H1 h (by omega) w g he (fun _ _ => rfl)
  · refine v_iload_n hX dJ17_circularClear_5 rfl ?_
    refine v_goto (tgt := 11) hX dJ17_circularClear_6 rfl ?_
    refine v_istore_n (lv' := [_, _, _, _]) hX dJ17_circularClear_11 (Nat.le_of_ble_eq_true rfl) rfl rfl ?_
    exact H2 h ((nI_leI (by omega) (by omega)).mp (Int32.not_lt.mp c_2)) w g he (fun _ _ => rfl)
theorem c2_J17_clear : CG yJ17_clear cJ17_clear 1 none 0 := ⟨q1495, q149, q1497, by decide +kernel⟩
theorem m2_J17_clear {Γ : Gm} {l : Launch} {w : Wd} {q e h t : Nat} {g : Nat → Option Nat} (hh : h < 17) (ht : t < 17) (hq : w (q) = some (true, .inr (12, [.ref (e), .int (nI h), .int (nI t)]))) (he : w (e) = some (true, .inl (Γ.2.1 6, 17, .inr (.inr (.inr (.inr (g))))))) : M0 Γ l yJ17_clear (ws_ yJ17_clear cJ17_clear 1 none) (rl 1 0 0) 0 0 [.ref (q)] w (fun v9 w9 => v9 = none ∧ ∃ g1 : Nat → Option Nat, w9 = wup (wup w e (true, .inl (Γ.2.1 6, 17, .inr (.inr (.inr (.inr (g1))))))) q (true, .inr (12, [.ref (e), .int (nI 0), .int (nI 0)]))) := by
  refine M0.of (lv := [some (.ref (q))]) (by decide) (Nat.le_of_ble_eq_true rfl) 0 rfl rfl ?_
  intro X hX hR hl hG hnm
  subst hl; subst hG
  refine v_aload_n hX dJ17_clear_0 rfl ?_
  refine v_get hX dJ17_clear_1 in_J17 cl_12 0 (by decide) q688 (fun _ h => h) hq rfl ?_
  refine v_aload_n hX dJ17_clear_4 rfl ?_
  refine v_get hX dJ17_clear_5 in_J17 cl_12 1 (by decide) q689 (fun _ h => h) hq rfl ?_
  refine v_aload_n hX dJ17_clear_8 rfl ?_
  refine v_get hX dJ17_clear_9 in_J17 cl_12 2 (by decide) q690 (fun _ h => h) hq rfl ?_
  refine v_cS hX rfl dJ17_clear_12 q1498 c2_J17_circularClear (m2_J17_circularClear hh ht he) rfl ⟨rfl, rfl⟩ ⟨Nat.le_of_ble_eq_true rfl, Nat.le_of_ble_eq_true rfl⟩ rfl (Nat.le_of_ble_eq_true rfl) ⟨Nat.le_of_ble_eq_true rfl, Nat.le_of_ble_eq_true rfl⟩ (fun v w12 h => ?_)
  obtain ⟨rfl, g1, rfl⟩ := h
  refine V.at rfl rfl (st2 := []) rfl ?_
  refine v_aload_n hX dJ17_clear_15 rfl ?_
  refine v_aload_n hX dJ17_clear_16 rfl ?_
  refine v_iconst hX dJ17_clear_17 ki0 ?_
  refine v_dup_x1 hX dJ17_clear_18 rfl rfl ?_
  refine v_putw (fs' := [.ref (e), .int (nI h), .int (0)]) hX dJ17_clear_19 in_J17 tyJ17 tyJ17_ok nmJ17 cl_12 2 (by decide) q690 (fun _ h => h) rfl (tyJ17_ok 2 (by decide)) (rfl) (rfl) ((wup_n (wne2 hq he (by simp))).trans hq) (Nat.le_of_ble_eq_true rfl) rfl ?_
  refine v_putw (fs' := [.ref (e), .int (0), .int (0)]) hX dJ17_clear_22 in_J17 tyJ17 tyJ17_ok nmJ17 cl_12 1 (by decide) q689 (fun _ h => h) rfl (tyJ17_ok 1 (by decide)) (rfl) (rfl) wup_s (Nat.le_of_ble_eq_true rfl) rfl ?_
  refine V.at wup_ss rfl rfl ?_
  exact v_vret hX dJ17_clear_25 hR (Nat.le_of_ble_eq_true rfl) (Nat.le_of_ble_eq_true rfl) (⟨rfl, g1, by rw [nI_0]⟩)
