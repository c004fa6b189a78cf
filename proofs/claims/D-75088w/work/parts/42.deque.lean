/-! deques -/
set_option maxRecDepth 100000
theorem dq_s1 : ∀ t, t < 17 → ∀ h, h < 17 → 0 ≤ nI t - nI h → nI t - nI h = nI ((t + 17 - h) % 17) := by decide +kernel
theorem dq_s2 : ∀ t, t < 17 → ∀ h, h < 17 → ¬ 0 ≤ nI t - nI h → nI t - nI h + 17 = nI ((t + 17 - h) % 17) := by decide +kernel
theorem dq_i1 : ∀ t, t < 17 → nI t + 1 < 17 → nI t + 1 = nI ((t + 1) % 17) := by decide +kernel
theorem dq_i2 : ∀ t, t < 17 → ¬ nI t + 1 < 17 → 0 = nI ((t + 1) % 17) := by decide +kernel
theorem dq_d1 : ∀ t, t < 17 → 0 ≤ nI t + (-1) → nI t + (-1) = nI ((t + 16) % 17) := by decide +kernel
theorem dq_d2 : ∀ t, t < 17 → ¬ 0 ≤ nI t + (-1) → 17 - 1 = nI ((t + 16) % 17) := by decide +kernel
theorem c2_J17_sub : CS yJ17_sub cJ17_sub 3 (some .int) 3 := ⟨q1750, q149, q1751, by decide +kernel⟩
theorem m2_J17_sub {Γ : Gm} {l : Launch} {w : Wd} {t h : Nat} (ht : t < 17) (hh : h < 17)  : M0 Γ l yJ17_sub (ws_ yJ17_sub cJ17_sub 3 (some .int)) (rl 0 0 0) 0 0 [.int (nI t), .int (nI h), .int (17)] w (fun v9 w9 => v9 = some (.int (nI ((t + 17 - h) % 17))) ∧ w9 = w) := by
  refine M0.of (lv := [some (.int (nI t)), some (.int (nI h)), some (.int (17))]) (by decide) (Nat.le_of_ble_eq_true rfl) 0 rfl rfl ?_
  intro X hX hR hl hG hnm
  subst hl; subst hG
  refine v_iload_n hX dJ17_sub_0 rfl ?_
  refine v_iload_n hX dJ17_sub_1 rfl ?_
  refine v_isub hX dJ17_sub_2 ?_
  refine v_dup hX dJ17_sub_3 rfl ?_
  refine v_istore_n (lv' := [_, _, _]) hX dJ17_sub_4 (Nat.le_of_ble_eq_true rfl) rfl rfl ?_
  refine v_if_ge (tgt := 12) hX dJ17_sub_5 rfl (fun c_5 => ?_) (fun c_5 => ?_)
  · refine v_iload_n hX dJ17_sub_12 rfl ?_
    refine V.topi (dq_s1 _ ht _ hh c_5) ?_
    exact v_iret hX dJ17_sub_13 hR (Nat.le_of_ble_eq_true rfl) (Nat.le_of_ble_eq_true rfl) (⟨rfl, rfl⟩)
  · refine v_iload_n hX dJ17_sub_8 rfl ?_
    refine v_iload_n hX dJ17_sub_9 rfl ?_
    refine v_iadd hX dJ17_sub_10 ?_
    refine v_istore_n (lv' := [_, _, _]) hX dJ17_sub_11 (Nat.le_of_ble_eq_true rfl) rfl rfl ?_
    refine v_iload_n hX dJ17_sub_12 rfl ?_
    refine V.topi (dq_s2 _ ht _ hh c_5) ?_
    exact v_iret hX dJ17_sub_13 hR (Nat.le_of_ble_eq_true rfl) (Nat.le_of_ble_eq_true rfl) (⟨rfl, rfl⟩)
theorem c2_J17_inc : CS yJ17_inc cJ17_inc 2 (some .int) 2 := ⟨q1764, q149, q1765, by decide +kernel⟩
theorem m2_J17_inc {Γ : Gm} {l : Launch} {w : Wd} {t : Nat} (ht : t < 17)  : M0 Γ l yJ17_inc (ws_ yJ17_inc cJ17_inc 2 (some .int)) (rl 0 0 0) 0 0 [.int (nI t), .int (17)] w (fun v9 w9 => v9 = some (.int (nI ((t + 1) % 17))) ∧ w9 = w) := by
  refine M0.of (lv := [some (.int (nI t)), some (.int (17))]) (by decide) (Nat.le_of_ble_eq_true rfl) 0 rfl rfl ?_
  intro X hX hR hl hG hnm
  subst hl; subst hG
  refine v_iinc (lv' := [_, _]) hX dJ17_inc_0 rfl ki1 rfl rfl ?_
  refine v_iload_n hX dJ17_inc_3 rfl ?_
  refine v_iload_n hX dJ17_inc_4 rfl ?_
  refine v_icmp_lt (tgt := 10) hX dJ17_inc_5 rfl (fun c_5 => ?_) (fun c_5 => ?_)
  · refine v_iload_n hX dJ17_inc_10 rfl ?_
    refine V.topi (dq_i1 _ ht c_5) ?_
    exact v_iret hX dJ17_inc_11 hR (Nat.le_of_ble_eq_true rfl) (Nat.le_of_ble_eq_true rfl) (⟨rfl, rfl⟩)
  · refine v_iconst hX dJ17_inc_8 ki0 ?_
    refine v_istore_n (lv' := [_, _]) hX dJ17_inc_9 (Nat.le_of_ble_eq_true rfl) rfl rfl ?_
    refine v_iload_n hX dJ17_inc_10 rfl ?_
    refine V.topi (dq_i2 _ ht c_5) ?_
    exact v_iret hX dJ17_inc_11 hR (Nat.le_of_ble_eq_true rfl) (Nat.le_of_ble_eq_true rfl) (⟨rfl, rfl⟩)
theorem c2_J17_dec : CS yJ17_dec cJ17_dec 2 (some .int) 2 := ⟨q1856, q149, q1857, by decide +kernel⟩
theorem m2_J17_dec {Γ : Gm} {l : Launch} {w : Wd} {t : Nat} (ht : t < 17)  : M0 Γ l yJ17_dec (ws_ yJ17_dec cJ17_dec 2 (some .int)) (rl 0 0 0) 0 0 [.int (nI t), .int (17)] w (fun v9 w9 => v9 = some (.int (nI ((t + 16) % 17))) ∧ w9 = w) := by
  refine M0.of (lv := [some (.int (nI t)), some (.int (17))]) (by decide) (Nat.le_of_ble_eq_true rfl) 0 rfl rfl ?_
  intro X hX hR hl hG hnm
  subst hl; subst hG
  refine v_iinc (lv' := [_, _]) hX dJ17_dec_0 rfl kim1 rfl rfl ?_
  refine v_iload_n hX dJ17_dec_3 rfl ?_
  refine v_if_ge (tgt := 11) hX dJ17_dec_4 rfl (fun c_4 => ?_) (fun c_4 => ?_)
  · refine v_iload_n hX dJ17_dec_11 rfl ?_
    refine V.topi (dq_d1 _ ht c_4) ?_
    exact v_iret hX dJ17_dec_12 hR (Nat.le_of_ble_eq_true rfl) (Nat.le_of_ble_eq_true rfl) (⟨rfl, rfl⟩)
  · refine v_iload_n hX dJ17_dec_7 rfl ?_
    refine v_iconst hX dJ17_dec_8 ki1 ?_
    refine v_isub hX dJ17_dec_9 ?_
    refine v_istore_n (lv' := [_, _]) hX dJ17_dec_10 (Nat.le_of_ble_eq_true rfl) rfl rfl ?_
    refine v_iload_n hX dJ17_dec_11 rfl ?_
    refine V.topi (dq_d2 _ ht c_4) ?_
    exact v_iret hX dJ17_dec_12 hR (Nat.le_of_ble_eq_true rfl) (Nat.le_of_ble_eq_true rfl) (⟨rfl, rfl⟩)
theorem c2_J17_size : CG yJ17_size cJ17_size 1 (some .int) 0 := ⟨q1746, q149, q1748, by decide +kernel⟩
theorem m2_J17_size {Γ : Gm} {l : Launch} {w : Wd} {q e h t : Nat} {g : Nat → Option Nat} (hh : h < 17) (ht : t < 17) (hq : w (q) = some (true, .inr (12, [.ref (e), .int (nI h), .int (nI t)]))) (he : w (e) = some (true, .inl (Γ.2.1 6, 17, .inr (.inr (.inr (.inr (g))))))) : M0 Γ l yJ17_size (ws_ yJ17_size cJ17_size 1 (some .int)) (rl 1 0 0) 0 0 [.ref (q)] w (fun v9 w9 => v9 = some (.int (nI ((t + 17 - h) % 17))) ∧ w9 = w) := by
  refine M0.of (lv := [some (.ref (q))]) (by decide) (Nat.le_of_ble_eq_true rfl) 0 rfl rfl ?_
  intro X hX hR hl hG hnm
  subst hl; subst hG
  refine v_aload_n hX dJ17_size_0 rfl ?_
  refine v_get hX dJ17_size_1 in_J17 cl_12 2 (by decide) q690 (fun _ h => h) hq rfl ?_
  refine v_aload_n hX dJ17_size_4 rfl ?_
  refine v_get hX dJ17_size_5 in_J17 cl_12 1 (by decide) q689 (fun _ h => h) hq rfl ?_
  refine v_aload_n hX dJ17_size_8 rfl ?_
  refine v_get hX dJ17_size_9 in_J17 cl_12 0 (by decide) q688 (fun _ h => h) hq rfl ?_
  refine v_alen (ti := 6) hX dJ17_size_12 he rfl rfl ?_
  refine V.topi (y := 17) (rfl) ?_
  refine v_cSe hX rfl dJ17_size_13 q1749 c2_J17_sub (m2_J17_sub ht hh) rfl ⟨rfl, rfl⟩ ⟨Nat.le_of_ble_eq_true rfl, Nat.le_of_ble_eq_true rfl⟩ rfl (Nat.le_of_ble_eq_true rfl) ⟨Nat.le_of_ble_eq_true rfl, Nat.le_of_ble_eq_true rfl⟩ ?_
  exact v_iret hX dJ17_size_16 hR (Nat.le_of_ble_eq_true rfl) (Nat.le_of_ble_eq_true rfl) (⟨rfl, rfl⟩)
theorem c2_J17_isEmpty : CG yJ17_isEmpty cJ17_isEmpty 1 (some .boolean) 0 := ⟨q1844, q149, q1846, by decide +kernel⟩
theorem m2_J17_isEmpty {Γ : Gm} {l : Launch} {w : Wd} {q e h t : Nat} {g : Nat → Option Nat} (hh : h < 17) (ht : t < 17) (hq : w (q) = some (true, .inr (12, [.ref (e), .int (nI h), .int (nI t)]))) (he : w (e) = some (true, .inl (Γ.2.1 6, 17, .inr (.inr (.inr (.inr (g))))))) : M0 Γ l yJ17_isEmpty (ws_ yJ17_isEmpty cJ17_isEmpty 1 (some .boolean)) (rl 0 0 0) 0 0 [.ref (q)] w (fun v9 w9 => v9 = some (.int (bi (h = t))) ∧ w9 = w) := by
  refine M0.of (lv := [some (.ref (q))]) (by decide) (Nat.le_of_ble_eq_true rfl) 0 rfl rfl ?_
  intro X hX hR hl hG hnm
  subst hl; subst hG
  refine v_aload_n hX dJ17_isEmpty_0 rfl ?_
  refine v_get hX dJ17_isEmpty_1 in_J17 cl_12 1 (by decide) q689 (fun _ h => h) hq rfl ?_
  refine v_aload_n hX dJ17_isEmpty_4 rfl ?_
  refine v_get hX dJ17_isEmpty_5 in_J17 cl_12 2 (by decide) q690 (fun _ h => h) hq rfl ?_
  refine v_icmp_ne (tgt := 15) hX dJ17_isEmpty_8 rfl (fun c_8 => ?_) (fun c_8 => ?_)
  · refine v_iconst hX dJ17_isEmpty_15 ki0 ?_
    exact v_zret hX dJ17_isEmpty_16 hR (Nat.le_of_ble_eq_true rfl) (Nat.le_of_ble_eq_true rfl) (rfl) (⟨by simp [bi, nI_eq (show h < 2 ^ 31 by omega) (show t < 2 ^ 31 by omega)] at *; simp [*], rfl⟩)
  · refine v_iconst hX dJ17_isEmpty_11 ki1 ?_
    refine v_goto (tgt := 16) hX dJ17_isEmpty_12 rfl ?_
    exact v_zret hX dJ17_isEmpty_16 hR (Nat.le_of_ble_eq_true rfl) (Nat.le_of_ble_eq_true rfl) (rfl) (⟨by simp [bi, nI_eq (show h < 2 ^ 31 by omega) (show t < 2 ^ 31 by omega)] at *; simp [*], rfl⟩)
theorem c2_J17_elementAt : CS yJ17_elementAt cJ17_elementAt 2 (Option.some (Jvm.ClassFile.FieldType.object "java/lang/Object")) 2 := ⟨q1761, q149, q1762, by decide +kernel⟩
theorem m2_J17_elementAt {Γ : Gm} {l : Launch} {w : Wd} {e i v : Nat} {g : Nat → Option Nat} (hi : i < 17) (hv : g i = some v) (he : w (e) = some (true, .inl (Γ.2.1 6, 17, .inr (.inr (.inr (.inr (g))))))) : M0 Γ l yJ17_elementAt (ws_ yJ17_elementAt cJ17_elementAt 2 (Option.some (Jvm.ClassFile.FieldType.object "java/lang/Object"))) (rl 0 0 0) 0 0 [.ref (e), .int (nI i)] w (fun v9 w9 => v9 = some (.ref (v)) ∧ w9 = w) := by
  refine M0.of (lv := [some (.ref (e)), some (.int (nI i))]) (by decide) (Nat.le_of_ble_eq_true rfl) 0 rfl rfl ?_
  intro X hX hR hl hG hnm
  subst hl; subst hG
  refine v_aload_n hX dJ17_elementAt_0 rfl ?_
  refine v_iload_n hX dJ17_elementAt_1 rfl ?_
  refine v_aald hX dJ17_elementAt_2 he (vp_in_nI hi (by decide)) ?_
  refine V.top (v := .ref (v)) (by rw [nI_clamp (by omega), hv]; rfl) ?_
  exact v_aret hX dJ17_elementAt_3 hR (Nat.le_of_ble_eq_true rfl) (Nat.le_of_ble_eq_true rfl) (by first | exact Or.inl ⟨_, rfl⟩ | exact Or.inr ⟨_, rfl⟩) (by first | exact Or.inl rfl | exact Or.inr ⟨_, rfl⟩) (⟨rfl, rfl⟩)
theorem c2_J17_pollFirst : CG yJ17_pollFirst cJ17_pollFirst 4 (Option.some (Jvm.ClassFile.FieldType.object "java/lang/Object")) 0 := ⟨q1757, q149, q1759, by decide +kernel⟩
theorem m2_J17_pollFirst {Γ : Gm} {l : Launch} {w : Wd} {q e h t : Nat} {g : Nat → Option Nat} (hh : h < 17) (ht : t < 17) {v : Nat} (hv : g h = some v) (hq : w (q) = some (true, .inr (12, [.ref (e), .int (nI h), .int (nI t)]))) (he : w (e) = some (true, .inl (Γ.2.1 6, 17, .inr (.inr (.inr (.inr (g))))))) : M0 Γ l yJ17_pollFirst (ws_ yJ17_pollFirst cJ17_pollFirst 4 (Option.some (Jvm.ClassFile.FieldType.object "java/lang/Object"))) (rl 1 0 0) 0 0 [.ref (q)] w (fun v9 w9 => v9 = some (.ref (v)) ∧ w9 = (wup (wup w (q) (true, .inr (12, [.ref (e), .int (nI ((h + 1) % 17)), .int (nI t)]))) (e) (true, .inl (Γ.2.1 6, 17, .inr (.inr (.inr (.inr (va_up g h none)))))))) := by
  refine M0.of (lv := [some (.ref (q)), none, none, none]) (by decide) (Nat.le_of_ble_eq_true rfl) 3 rfl rfl ?_
  intro X hX hR hl hG hnm
  subst hl; subst hG
  refine v_aload_n hX dJ17_pollFirst_0 rfl ?_
  refine v_get hX dJ17_pollFirst_1 in_J17 cl_12 0 (by decide) q688 (fun _ h => h) hq rfl ?_
  refine v_dup hX dJ17_pollFirst_4 rfl ?_
  refine v_astore_n (lv' := [_, _, _, _]) hX dJ17_pollFirst_5 (Nat.le_of_ble_eq_true rfl) rfl rfl ?_
  refine v_aload_n hX dJ17_pollFirst_6 rfl ?_
  refine v_get hX dJ17_pollFirst_7 in_J17 cl_12 1 (by decide) q689 (fun _ h => h) hq rfl ?_
  refine v_dup hX dJ17_pollFirst_10 rfl ?_
  refine v_istore_n (lv' := [_, _, _, _]) hX dJ17_pollFirst_11 (Nat.le_of_ble_eq_true rfl) rfl rfl ?_
  refine v_cSe hX rfl dJ17_pollFirst_12 q1760 c2_J17_elementAt (m2_J17_elementAt hh hv he) rfl ⟨rfl, rfl⟩ ⟨Nat.le_of_ble_eq_true rfl, Nat.le_of_ble_eq_true rfl⟩ rfl (Nat.le_of_ble_eq_true rfl) ⟨Nat.le_of_ble_eq_true rfl, Nat.le_of_ble_eq_true rfl⟩ ?_
  refine v_astore_n (lv' := [_, _, _, _]) hX dJ17_pollFirst_15 (Nat.le_of_ble_eq_true rfl) rfl rfl ?_
  refine v_aload_n hX dJ17_pollFirst_16 rfl ?_
  refine v_ifnull hX dJ17_pollFirst_17 ?_
  refine v_aload_n hX dJ17_pollFirst_20 rfl ?_
  refine v_iload_n hX dJ17_pollFirst_21 rfl ?_
  refine v_null hX dJ17_pollFirst_22 ?_
  refine v_aastN hX dJ17_pollFirst_23 he (vp_in_nI hh (by decide)) ?_
  refine v_aload_n hX dJ17_pollFirst_24 rfl ?_
  refine v_iload_n hX dJ17_pollFirst_25 rfl ?_
  refine v_aload_n hX dJ17_pollFirst_26 rfl ?_
  refine v_alen (ti := 6) hX dJ17_pollFirst_27 wup_s rfl rfl ?_
  refine V.topi (y := 17) (rfl) ?_
  refine v_cSe hX rfl dJ17_pollFirst_28 q1763 c2_J17_inc (m2_J17_inc hh) rfl ⟨rfl, rfl⟩ ⟨Nat.le_of_ble_eq_true rfl, Nat.le_of_ble_eq_true rfl⟩ rfl (Nat.le_of_ble_eq_true rfl) ⟨Nat.le_of_ble_eq_true rfl, Nat.le_of_ble_eq_true rfl⟩ ?_
  refine v_putw (fs' := [.ref (e), .int (nI ((h + 1) % 17)), .int (nI t)]) hX dJ17_pollFirst_31 in_J17 tyJ17 tyJ17_ok nmJ17 cl_12 1 (by decide) q689 (fun _ h => h) rfl (tyJ17_ok 1 (by decide)) (rfl) (rfl) ((wup_n (wne2 hq he (by simp))).trans hq) (Nat.le_of_ble_eq_true rfl) rfl ?_
  refine v_aload_n hX dJ17_pollFirst_34 rfl ?_
  exact v_aret hX dJ17_pollFirst_35 hR (Nat.le_of_ble_eq_true rfl) (Nat.le_of_ble_eq_true rfl) (by first | exact Or.inl ⟨_, rfl⟩ | exact Or.inr ⟨_, rfl⟩) (by first | exact Or.inl rfl | exact Or.inr ⟨_, rfl⟩) (⟨rfl, by rw [nI_clamp (by omega)]; exact (by funext z; unfold wup; by_cases e0 : z = e <;>  by_cases e1 : z = q <;> simp [e0, e1, (wne2 he hq (by simp)), Ne.symm (wne2 he hq (by simp))])⟩)
theorem c2_J17_removeFirst : CG yJ17_removeFirst cJ17_removeFirst 2 (Option.some (Jvm.ClassFile.FieldType.object "java/lang/Object")) 0 := ⟨q1753, q149, q1755, by decide +kernel⟩
theorem m2_J17_removeFirst {Γ : Gm} {l : Launch} {w : Wd} {q e h t : Nat} {g : Nat → Option Nat} (hh : h < 17) (ht : t < 17) {v : Nat} (hv : g h = some v) (hq : w (q) = some (true, .inr (12, [.ref (e), .int (nI h), .int (nI t)]))) (he : w (e) = some (true, .inl (Γ.2.1 6, 17, .inr (.inr (.inr (.inr (g))))))) : M0 Γ l yJ17_removeFirst (ws_ yJ17_removeFirst cJ17_removeFirst 2 (Option.some (Jvm.ClassFile.FieldType.object "java/lang/Object"))) (rl 2 0 0) 0 0 [.ref (q)] w (fun v9 w9 => v9 = some (.ref (v)) ∧ w9 = (wup (wup w (q) (true, .inr (12, [.ref (e), .int (nI ((h + 1) % 17)), .int (nI t)]))) (e) (true, .inl (Γ.2.1 6, 17, .inr (.inr (.inr (.inr (va_up g h none)))))))) := by
  refine M0.of (lv := [some (.ref (q)), none]) (by decide) (Nat.le_of_ble_eq_true rfl) 1 rfl rfl ?_
  intro X hX hR hl hG hnm
  subst hl; subst hG
  refine v_aload_n hX dJ17_removeFirst_0 rfl ?_
  refine v_cVe hX rfl dJ17_removeFirst_1 q1756 c2_J17_pollFirst q1758 rfl cl_12 hq (m2_J17_pollFirst hh ht hv hq he) rfl ⟨rfl, rfl⟩ ⟨Nat.le_of_ble_eq_true rfl, Nat.le_of_ble_eq_true rfl⟩ rfl (Nat.le_of_ble_eq_true rfl) ⟨Nat.le_of_ble_eq_true rfl, Nat.le_of_ble_eq_true rfl⟩ ?_
  refine v_astore_n (lv' := [_, _]) hX dJ17_removeFirst_4 (Nat.le_of_ble_eq_true rfl) rfl rfl ?_
  refine v_aload_n hX dJ17_removeFirst_5 rfl ?_
  refine v_ifnonnull (tgt := 17) hX dJ17_removeFirst_6 rfl ?_
  refine v_aload_n hX dJ17_removeFirst_17 rfl ?_
  exact v_aret hX dJ17_removeFirst_18 hR (Nat.le_of_ble_eq_true rfl) (Nat.le_of_ble_eq_true rfl) (by first | exact Or.inl ⟨_, rfl⟩ | exact Or.inr ⟨_, rfl⟩) (by first | exact Or.inl rfl | exact Or.inr ⟨_, rfl⟩) (⟨rfl, rfl⟩)
theorem c2_J17_pollLast : CG yJ17_pollLast cJ17_pollLast 4 (Option.some (Jvm.ClassFile.FieldType.object "java/lang/Object")) 0 := ⟨q1852, q149, q1854, by decide +kernel⟩
theorem m2_J17_pollLast {Γ : Gm} {l : Launch} {w : Wd} {q e h t : Nat} {g : Nat → Option Nat} (hh : h < 17) (ht : t < 17) {v : Nat} (hv : g ((t + 16) % 17) = some v) (hq : w (q) = some (true, .inr (12, [.ref (e), .int (nI h), .int (nI t)]))) (he : w (e) = some (true, .inl (Γ.2.1 6, 17, .inr (.inr (.inr (.inr (g))))))) : M0 Γ l yJ17_pollLast (ws_ yJ17_pollLast cJ17_pollLast 4 (Option.some (Jvm.ClassFile.FieldType.object "java/lang/Object"))) (rl 1 0 0) 0 0 [.ref (q)] w (fun v9 w9 => v9 = some (.ref (v)) ∧ w9 = (wup (wup w (q) (true, .inr (12, [.ref (e), .int (nI h), .int (nI ((t + 16) % 17))]))) (e) (true, .inl (Γ.2.1 6, 17, .inr (.inr (.inr (.inr (va_up g ((t + 16) % 17) none)))))))) := by
  refine M0.of (lv := [some (.ref (q)), none, none, none]) (by decide) (Nat.le_of_ble_eq_true rfl) 3 rfl rfl ?_
  intro X hX hR hl hG hnm
  subst hl; subst hG
  refine v_aload_n hX dJ17_pollLast_0 rfl ?_
  refine v_get hX dJ17_pollLast_1 in_J17 cl_12 0 (by decide) q688 (fun _ h => h) hq rfl ?_
  refine v_dup hX dJ17_pollLast_4 rfl ?_
  refine v_astore_n (lv' := [_, _, _, _]) hX dJ17_pollLast_5 (Nat.le_of_ble_eq_true rfl) rfl rfl ?_
  refine v_aload_n hX dJ17_pollLast_6 rfl ?_
  refine v_get hX dJ17_pollLast_7 in_J17 cl_12 2 (by decide) q690 (fun _ h => h) hq rfl ?_
  refine v_aload_n hX dJ17_pollLast_10 rfl ?_
  refine v_alen (ti := 6) hX dJ17_pollLast_11 he rfl rfl ?_
  refine V.topi (y := 17) (rfl) ?_
  refine v_cSe hX rfl dJ17_pollLast_12 q1855 c2_J17_dec (m2_J17_dec ht) rfl ⟨rfl, rfl⟩ ⟨Nat.le_of_ble_eq_true rfl, Nat.le_of_ble_eq_true rfl⟩ rfl (Nat.le_of_ble_eq_true rfl) ⟨Nat.le_of_ble_eq_true rfl, Nat.le_of_ble_eq_true rfl⟩ ?_
  refine v_dup hX dJ17_pollLast_15 rfl ?_
  refine v_istore_n (lv' := [_, _, _, _]) hX dJ17_pollLast_16 (Nat.le_of_ble_eq_true rfl) rfl rfl ?_
  refine v_cSe hX rfl dJ17_pollLast_17 q1760 c2_J17_elementAt (m2_J17_elementAt (Nat.mod_lt _ (by decide)) hv he) rfl ⟨rfl, rfl⟩ ⟨Nat.le_of_ble_eq_true rfl, Nat.le_of_ble_eq_true rfl⟩ rfl (Nat.le_of_ble_eq_true rfl) ⟨Nat.le_of_ble_eq_true rfl, Nat.le_of_ble_eq_true rfl⟩ ?_
  refine v_astore_n (lv' := [_, _, _, _]) hX dJ17_pollLast_20 (Nat.le_of_ble_eq_true rfl) rfl rfl ?_
  refine v_aload_n hX dJ17_pollLast_21 rfl ?_
  refine v_ifnull hX dJ17_pollLast_22 ?_
  refine v_aload_n hX dJ17_pollLast_25 rfl ?_
  refine v_aload_n hX dJ17_pollLast_26 rfl ?_
  refine v_iload_n hX dJ17_pollLast_27 rfl ?_
  refine v_dup_x1 hX dJ17_pollLast_28 rfl rfl ?_
  refine v_putw (fs' := [.ref (e), .int (nI h), .int (nI ((t + 16) % 17))]) hX dJ17_pollLast_29 in_J17 tyJ17 tyJ17_ok nmJ17 cl_12 2 (by decide) q690 (fun _ h => h) rfl (tyJ17_ok 2 (by decide)) (rfl) (rfl) hq (Nat.le_of_ble_eq_true rfl) rfl ?_
  refine v_null hX dJ17_pollLast_32 ?_
  refine v_aastN hX dJ17_pollLast_33 ((wup_n (wne2 he hq (by simp))).trans he) (vp_in_nI (Nat.mod_lt _ (by decide)) (by decide)) ?_
  refine v_aload_n hX dJ17_pollLast_34 rfl ?_
  exact v_aret hX dJ17_pollLast_35 hR (Nat.le_of_ble_eq_true rfl) (Nat.le_of_ble_eq_true rfl) (by first | exact Or.inl ⟨_, rfl⟩ | exact Or.inr ⟨_, rfl⟩) (by first | exact Or.inl rfl | exact Or.inr ⟨_, rfl⟩) (⟨rfl, by rw [nI_clamp (by omega)]⟩)
theorem c2_J17_removeLast : CG yJ17_removeLast cJ17_removeLast 2 (Option.some (Jvm.ClassFile.FieldType.object "java/lang/Object")) 0 := ⟨q1848, q149, q1850, by decide +kernel⟩
theorem m2_J17_removeLast {Γ : Gm} {l : Launch} {w : Wd} {q e h t : Nat} {g : Nat → Option Nat} (hh : h < 17) (ht : t < 17) {v : Nat} (hv : g ((t + 16) % 17) = some v) (hq : w (q) = some (true, .inr (12, [.ref (e), .int (nI h), .int (nI t)]))) (he : w (e) = some (true, .inl (Γ.2.1 6, 17, .inr (.inr (.inr (.inr (g))))))) : M0 Γ l yJ17_removeLast (ws_ yJ17_removeLast cJ17_removeLast 2 (Option.some (Jvm.ClassFile.FieldType.object "java/lang/Object"))) (rl 2 0 0) 0 0 [.ref (q)] w (fun v9 w9 => v9 = some (.ref (v)) ∧ w9 = (wup (wup w (q) (true, .inr (12, [.ref (e), .int (nI h), .int (nI ((t + 16) % 17))]))) (e) (true, .inl (Γ.2.1 6, 17, .inr (.inr (.inr (.inr (va_up g ((t + 16) % 17) none)))))))) := by
  refine M0.of (lv := [some (.ref (q)), none]) (by decide) (Nat.le_of_ble_eq_true rfl) 1 rfl rfl ?_
  intro X hX hR hl hG hnm
  subst hl; subst hG
  refine v_aload_n hX dJ17_removeLast_0 rfl ?_
  refine v_cVe hX rfl dJ17_removeLast_1 q1851 c2_J17_pollLast q1853 rfl cl_12 hq (m2_J17_pollLast hh ht hv hq he) rfl ⟨rfl, rfl⟩ ⟨Nat.le_of_ble_eq_true rfl, Nat.le_of_ble_eq_true rfl⟩ rfl (Nat.le_of_ble_eq_true rfl) ⟨Nat.le_of_ble_eq_true rfl, Nat.le_of_ble_eq_true rfl⟩ ?_
  refine v_astore_n (lv' := [_, _]) hX dJ17_removeLast_4 (Nat.le_of_ble_eq_true rfl) rfl rfl ?_
  refine v_aload_n hX dJ17_removeLast_5 rfl ?_
  refine v_ifnonnull (tgt := 17) hX dJ17_removeLast_6 rfl ?_
  refine v_aload_n hX dJ17_removeLast_17 rfl ?_
  exact v_aret hX dJ17_removeLast_18 hR (Nat.le_of_ble_eq_true rfl) (Nat.le_of_ble_eq_true rfl) (by first | exact Or.inl ⟨_, rfl⟩ | exact Or.inr ⟨_, rfl⟩) (by first | exact Or.inl rfl | exact Or.inr ⟨_, rfl⟩) (⟨rfl, rfl⟩)
theorem c2_J17_addLast : CG yJ17_addLast cJ17_addLast 3 none 1 := ⟨q1767, q149, q1769, by decide +kernel⟩
theorem m2_J17_addLast {Γ : Gm} {l : Launch} {w : Wd} (hg : gC Γ) {q e h t : Nat} {g : Nat → Option Nat} (hh : h < 17) (ht : t < 17) (hne : h ≠ (t + 1) % 17) {v : Nat} {fv : List Value} (hvq : v ≠ q) (hq : w (q) = some (true, .inr (12, [.ref (e), .int (nI h), .int (nI t)]))) (he : w (e) = some (true, .inl (Γ.2.1 6, 17, .inr (.inr (.inr (.inr (g))))))) (hv : w v = some (true, .inr (2, fv))) : M0 Γ l yJ17_addLast (ws_ yJ17_addLast cJ17_addLast 3 none) (rl 1 0 0) 0 0 [.ref (q), .ref (v)] w (fun v9 w9 => v9 = none ∧ w9 = (wup (wup w (q) (true, .inr (12, [.ref (e), .int (nI h), .int (nI ((t + 1) % 17))]))) (e) (true, .inl (Γ.2.1 6, 17, .inr (.inr (.inr (.inr (va_up g t (some v))))))))) := by
  refine M0.of (lv := [some (.ref (q)), some (.ref (v)), none]) (by decide) (Nat.le_of_ble_eq_true rfl) 1 rfl rfl ?_
  intro X hX hR hl hG hnm
  subst hl; subst hG
  refine v_aload_n hX dJ17_addLast_0 rfl ?_
  refine v_ifnonnull (tgt := 12) hX dJ17_addLast_1 rfl ?_
  refine v_aload_n hX dJ17_addLast_12 rfl ?_
  refine v_get hX dJ17_addLast_13 in_J17 cl_12 0 (by decide) q688 (fun _ h => h) hq rfl ?_
  refine v_astore_n (lv' := [_, _, _]) hX dJ17_addLast_16 (Nat.le_of_ble_eq_true rfl) rfl rfl ?_
  refine v_aload_n hX dJ17_addLast_17 rfl ?_
  refine v_aload_n hX dJ17_addLast_18 rfl ?_
  refine v_get hX dJ17_addLast_19 in_J17 cl_12 2 (by decide) q690 (fun _ h => h) hq rfl ?_
  refine v_aload_n hX dJ17_addLast_22 rfl ?_
  refine v_aast hX dJ17_addLast_23 hg he cl_2 q2669 hv (vp_in_nI ht (by decide)) ?_
  refine v_aload_n hX dJ17_addLast_24 rfl ?_
  refine v_get hX dJ17_addLast_25 in_J17 cl_12 1 (by decide) q689 (fun _ h => h) ((wup_n (wne2 hq he (by simp))).trans hq) rfl ?_
  refine v_aload_n hX dJ17_addLast_28 rfl ?_
  refine v_aload_n hX dJ17_addLast_29 rfl ?_
  refine v_get hX dJ17_addLast_30 in_J17 cl_12 2 (by decide) q690 (fun _ h => h) ((wup_n (wne2 hq he (by simp))).trans hq) rfl ?_
  refine v_aload_n hX dJ17_addLast_33 rfl ?_
  refine v_alen (ti := 6) hX dJ17_addLast_34 wup_s rfl rfl ?_
  refine V.topi (y := 17) (rfl) ?_
  refine v_cSe hX rfl dJ17_addLast_35 q1763 c2_J17_inc (m2_J17_inc ht) rfl ⟨rfl, rfl⟩ ⟨Nat.le_of_ble_eq_true rfl, Nat.le_of_ble_eq_true rfl⟩ rfl (Nat.le_of_ble_eq_true rfl) ⟨Nat.le_of_ble_eq_true rfl, Nat.le_of_ble_eq_true rfl⟩ ?_
  refine v_dup_x1 hX dJ17_addLast_38 rfl rfl ?_
  refine v_putw (fs' := [.ref (e), .int (nI h), .int (nI ((t + 1) % 17))]) hX dJ17_addLast_39 in_J17 tyJ17 tyJ17_ok nmJ17 cl_12 2 (by decide) q690 (fun _ h => h) rfl (tyJ17_ok 2 (by decide)) (rfl) (rfl) ((wup_n (wne2 hq he (by simp))).trans hq) (Nat.le_of_ble_eq_true rfl) rfl ?_
  refine v_icmp_ne_t (tgt := 50) hX dJ17_addLast_42 rfl (fun z => hne ((nI_eq (by omega) (by omega)).mp z)) ?_
  exact v_vret hX dJ17_addLast_50 hR (Nat.le_of_ble_eq_true rfl) (Nat.le_of_ble_eq_true rfl) (⟨rfl, by rw [nI_clamp (by omega)]; exact (by funext z; unfold wup; by_cases e0 : z = e <;>  by_cases e1 : z = q <;> simp [e0, e1, (wne2 he hq (by simp)), Ne.symm (wne2 he hq (by simp))])⟩)
