/-! the day: isReserved, worth -/
set_option maxRecDepth 100000
theorem ks10000 : (Int16.ofInt (10000)).toInt32 = 10000 := by decide +kernel
theorem bi_or {p q : Prop} [Decidable p] [Decidable q] : bi p ||| bi q = bi (p ∨ q) := by
  unfold bi
  by_cases h1 : p <;> by_cases h2 : q <;> simp [h1, h2] <;> decide
theorem ex_ss {p : Nat → Prop} {i : Nat} : ((∃ d, d < i ∧ p d) ∨ p i) ↔ ∃ d, d < i + 1 ∧ p d := by
  constructor
  · rintro (⟨d, h1, h2⟩ | h)
    · exact ⟨d, by omega, h2⟩
    · exact ⟨i, by omega, h⟩
  · rintro ⟨d, h1, h2⟩
    by_cases e : d = i
    · subst e; exact Or.inr h2
    · exact Or.inl ⟨d, by omega, h2⟩
theorem cf_X3_isReserved : CF RX3 yX3_isReserved cX3_isReserved 4 (some .boolean) 1 := ⟨q820, qs9, q144, q821, by decide +kernel⟩
theorem mX3_isReserved {Γ : Gm} {l : Launch} (hg : gC Γ) {G : Nat → Nat} {wB : Wd} {x : DS} {w : Wd} (hw : dW Γ G wB x w) (b : Int32) : MRd Γ l yX3_isReserved (ws_ yX3_isReserved cX3_isReserved 4 (some .boolean)) (rl 0 0 0) [.ref (G 19), .int b] w (.int (bi (∃ d : Nat, d < 4 ∧ eG x 16 (nI d) = b))) := by
  refine M0.of (lv := [some (.ref (G 19)), some (.int b), none, none]) (by decide) (Nat.le_of_ble_eq_true rfl) 2 rfl rfl ?_
  intro X hX hR hl hG hnm
  subst hl; subst hG
  refine v_iconst hX dX3_isReserved_0 ki0 ?_
  refine v_istore_n (lv' := [_, _, _, _]) hX dX3_isReserved_1 (Nat.le_of_ble_eq_true rfl) rfl rfl ?_
  refine v_iconst hX dX3_isReserved_2 ki0 ?_
  refine v_istore_n (lv' := [_, _, _, _]) hX dX3_isReserved_3 (Nat.le_of_ble_eq_true rfl) rfl rfl ?_
  refine V.at rfl (lv2 := [some (.ref (G 19)), some (.int b), some (.int (bi (∃ d : Nat, d < 0 ∧ eG x 16 (nI d) = b))), some (.int (nI 0))]) (by rw [show bi (∃ d : Nat, d < 0 ∧ eG x 16 (nI d) = b) = 0 from bi_f (fun h => by obtain ⟨d, h1, -⟩ := h; exact absurd h1 (Nat.not_lt_zero d)), nI_0]) rfl ?_
  refine loop_up (4) (fun i => V X w 0 0 4 [some (.ref (G 19)), some (.int b), some (.int (bi (∃ d : Nat, d < (i) ∧ eG x 16 (nI d) = b))), some (.int (nI (i)))] []) ?_ ?_ 0 (Nat.zero_le _)
  · skip
    refine v_iload_n hX dX3_isReserved_4 rfl ?_
    refine v_iconst hX dX3_isReserved_5 ki4 ?_
    refine v_icmp_ge_t (tgt := 33) hX dX3_isReserved_6 rfl (Int32.le_refl _) ?_
    refine v_iload_n hX dX3_isReserved_33 rfl ?_
    exact v_zret hX dX3_isReserved_34 hR (Nat.le_of_ble_eq_true rfl) (Nat.le_of_ble_eq_true rfl) (bi_nar) (⟨rfl, rfl⟩)
  · intro i hi ih
    have ih : V X w 0 0 4 [some (.ref (G 19)), some (.int b), some (.int (bi (∃ d : Nat, d < (i + 1) ∧ eG x 16 (nI d) = b))), some (.int (nI (i + 1)))] [] := ih
    refine v_iload_n hX dX3_isReserved_4 rfl ?_
    refine v_iconst hX dX3_isReserved_5 ki4 ?_
    refine v_icmp_ge_f (tgt := 33) hX dX3_isReserved_6 rfl (nI_ge hi (by decide)) ?_
    refine v_iload_n hX dX3_isReserved_9 rfl ?_
    refine v_aload_n hX dX3_isReserved_10 rfl ?_
    refine dv_get hX dX3_isReserved_11 hw 16 (by decide) q618 rfl ?_
    refine v_iload_n hX dX3_isReserved_14 rfl ?_
    refine dv_iald hX dX3_isReserved_15 hw (by decide) rfl rfl (vnI hi (by decide)) ?_
    refine v_iload_n hX dX3_isReserved_16 rfl ?_
    refine v_icmp_ne (tgt := 24) hX dX3_isReserved_17 rfl (fun c_17 => ?_) (fun c_17 => ?_)
    · refine v_iconst hX dX3_isReserved_24 ki0 ?_
      refine v_ior hX dX3_isReserved_25 ?_
      refine v_istore_n (lv' := [_, _, _, _]) hX dX3_isReserved_26 (Nat.le_of_ble_eq_true rfl) rfl rfl ?_
      refine v_iinc (lv' := [_, _, _, _]) hX dX3_isReserved_27 rfl ki1 rfl rfl ?_
      refine v_goto (tgt := 4) hX dX3_isReserved_30 rfl ?_
      exact V.at rfl (by rw [nI_1, show (0 : Int32) = bi (eG x 16 (nI i) = b) from Eq.symm (bi_f c_17), bi_or, bi_iff ex_ss]) rfl ih
    · refine v_iconst hX dX3_isReserved_20 ki1 ?_
      refine v_goto (tgt := 25) hX dX3_isReserved_21 rfl ?_
      refine v_ior hX dX3_isReserved_25 ?_
      refine v_istore_n (lv' := [_, _, _, _]) hX dX3_isReserved_26 (Nat.le_of_ble_eq_true rfl) rfl rfl ?_
      refine v_iinc (lv' := [_, _, _, _]) hX dX3_isReserved_27 rfl ki1 rfl rfl ?_
      refine v_goto (tgt := 4) hX dX3_isReserved_30 rfl ?_
      exact V.at rfl (by rw [nI_1, show (1 : Int32) = bi (eG x 16 (nI i) = b) from Eq.symm (bi_t c_17), bi_or, bi_iff ex_ss]) rfl ih
theorem cf_X3_worth : CF RX3 yX3_worth cX3_worth 1 (some .int) 0 := ⟨q1045, q1046, q144, q1047, by decide +kernel⟩
theorem mX3_worth {Γ : Gm} {l : Launch} (hg : gC Γ) {G : Nat → Nat} {wB : Wd} {x : DS} {w : Wd} (hw : dW Γ G wB x w) {S : Sh} {P : Pl} (hP : dP Γ S P wB x)  : MRd Γ l yX3_worth (ws_ yX3_worth cX3_worth 1 (some .int)) (rl 5 0 0) [.ref (G 19)] w (.int (10000 * ct (fun b => dy_state S P x (nI b) = 1) P.nb - 1000000 * ct (fun b => dy_state S P x (nI b) = 3) P.nb - dy_last x P.nb)) := by
  refine M0.of (lv := [some (.ref (G 19))]) (by decide) (Nat.le_of_ble_eq_true rfl) 0 rfl rfl ?_
  intro X hX hR hl hG hnm
  subst hl; subst hG
  refine v_sipush hX dX3_worth_0 ks10000 ?_
  refine v_aload_n hX dX3_worth_3 rfl ?_
  refine v_iconst hX dX3_worth_4 ki1 ?_
  refine dv_callR hX rfl dX3_worth_5 q1048 cf_X3_countOf hw (mX3_countOf hg hw hP _) rfl ⟨rfl, rfl⟩ ⟨Nat.le_of_ble_eq_true rfl, Nat.le_of_ble_eq_true rfl⟩ rfl (Nat.le_of_ble_eq_true rfl) ⟨Nat.le_of_ble_eq_true rfl, Nat.le_of_ble_eq_true rfl⟩ ?_
  refine v_imul hX dX3_worth_8 ?_
  refine v_ldc hX dX3_worth_9 q1056 ?_
  refine v_aload_n hX dX3_worth_11 rfl ?_
  refine v_iconst hX dX3_worth_12 ki3 ?_
  refine dv_callR hX rfl dX3_worth_13 q1048 cf_X3_countOf hw (mX3_countOf hg hw hP _) rfl ⟨rfl, rfl⟩ ⟨Nat.le_of_ble_eq_true rfl, Nat.le_of_ble_eq_true rfl⟩ rfl (Nat.le_of_ble_eq_true rfl) ⟨Nat.le_of_ble_eq_true rfl, Nat.le_of_ble_eq_true rfl⟩ ?_
  refine v_imul hX dX3_worth_16 ?_
  refine v_isub hX dX3_worth_17 ?_
  refine v_aload_n hX dX3_worth_18 rfl ?_
  refine dv_callR hX rfl dX3_worth_19 q1057 cf_X3_lastEnd hw (mX3_lastEnd hg hw hP) rfl ⟨rfl, rfl⟩ ⟨Nat.le_of_ble_eq_true rfl, Nat.le_of_ble_eq_true rfl⟩ rfl (Nat.le_of_ble_eq_true rfl) ⟨Nat.le_of_ble_eq_true rfl, Nat.le_of_ble_eq_true rfl⟩ ?_
  refine v_isub hX dX3_worth_22 ?_
  exact v_iret hX dX3_worth_23 hR (Nat.le_of_ble_eq_true rfl) (Nat.le_of_ble_eq_true rfl) (⟨rfl, rfl⟩)
