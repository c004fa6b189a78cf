/-! the twin: load, walked -/
noncomputable section
set_option maxRecDepth 100000
theorem mX8_many0 {Γ : Gm} {l : Launch} {G : Nat → Nat} {wB : Wd} {x : TS} {w : Wd} (hw : tW Γ G wB x w) (ha : x.1 2 = 0 ∨ x.1 2 = 70) : MRd Γ l yX8_many (ws_ yX8_many cX8_many 1 (some .int)) (rl 1 0 0) [.ref (G 61)] w (.int (tG x 8)) := by
  refine M0.of (lv := [some (.ref (G 61))]) (by decide) (Nat.le_of_ble_eq_true rfl) 0 rfl rfl ?_
  intro X hX hR hl hG hnm
  subst hl; subst hG
  refine v_aload_n hX dX8_many_0 rfl ?_
  refine v_bipush hX dX8_many_1 lb8 ?_
  refine tv_callR hX rfl dX8_many_3 q2229 cf_X8_get hw (mX8_get hw _ (gidx0 ha (vin (by decide)))) rfl ⟨rfl, rfl⟩ ⟨Nat.le_of_ble_eq_true rfl, Nat.le_of_ble_eq_true rfl⟩ rfl (Nat.le_of_ble_eq_true rfl) ⟨Nat.le_of_ble_eq_true rfl, Nat.le_of_ble_eq_true rfl⟩ ?_
  exact v_iret hX dX8_many_6 hR (Nat.le_of_ble_eq_true rfl) (Nat.le_of_ble_eq_true rfl) (⟨rfl, rfl⟩)
theorem cr_j {f t : Int32} {x : TS} : (tw_cr f t x).1 = x.1 := by
  rw [tw_cr_eq]
  exact it_keep (f := tw_cr1 f t) (fun y : TS => y.1) (fun _ _ => rfl) 70 x
theorem keep_j {x : TS} {j : Nat} (h3 : j ≠ 3) (h4 : j ≠ 4) (h5 : j ≠ 5) (h13 : j ≠ 13) : (tw_keep x).1 j = x.1 j := by
  rw [tw_keep_eq, sI_n h4, sI_n h3, cr_j]
  have e1 : (tw_krb x).1 j = (tw_kra x).1 j := it_keep (f := tw_kr2) (fun y : TS => y.1 j) (kr2_j j) (nw x) (tw_kra x)
  have e2 : (tw_kra x).1 j = (sI (sI x 5 (x.1 27)) 13 (x.1 28)).1 j := it_keep (f := tw_kr1) (fun y : TS => y.1 j) (kr1_j j) (np x) _
  rw [e1, e2, sI_n h13, sI_n h5]
theorem ld0_2 {x : TS} : (tw_ld0 x).1 2 = x.1 2 := by
  unfold tw_ld0
  rw [tok_j (by decide) (by decide) (by decide) (by decide), br_j (by decide) (by decide)]
  rfl
theorem cf_X8_load : CF RX8 yX8_load cX8_load 1 (some .int) 0 := ⟨q2119, q2120, q150, q2121, by decide +kernel⟩
theorem mX8_load {Γ : Gm} {l : Launch} {G : Nat → Nat} {wB : Wd} {x : TS} {w : Wd} (hw : tW Γ G wB x w) (hB : tB16 x) (ha : x.1 2 = 0 ∨ x.1 2 = 70) : M0 Γ l yX8_load (ws_ yX8_load cX8_load 1 (some .int)) (rl 7 0 0) 0 0 [.ref (G 61)] w (fun r9 w9 => r9 = some (.int (tw_load x).1) ∧ tW Γ G wB ((tw_load x).2) w9) := by
  refine M0.of (lv := [some (.ref (G 61))]) (by decide) (Nat.le_of_ble_eq_true rfl) 0 rfl rfl ?_
  intro X hX hR hl hG hnm
  subst hl; subst hG
  refine v_aload_n hX dX8_load_0 rfl ?_
  refine v_iconst hX dX8_load_1 li0 ?_
  refine tv_putI hX dX8_load_2 hw 0 (by decide) rfl q1909 rfl (by decide +kernel) (fun w hw => ?_)
  refine v_aload_n hX dX8_load_5 rfl ?_
  refine v_aload_n hX dX8_load_6 rfl ?_
  refine tv_getI hX dX8_load_7 hw 16 (by decide) rfl q1925 ?_
  refine tv_putI hX dX8_load_10 hw 20 (by decide) rfl q1929 rfl (by decide +kernel) (fun w hw => ?_)
  refine v_aload_n hX dX8_load_13 rfl ?_
  refine v_iconst hX dX8_load_14 li0 ?_
  refine tv_putI hX dX8_load_15 hw 16 (by decide) rfl q1925 rfl (by decide +kernel) (fun w hw => ?_)
  refine v_aload_n hX dX8_load_18 rfl ?_
  refine v_iconst hX dX8_load_19 li0 ?_
  refine tv_putI hX dX8_load_20 hw 21 (by decide) rfl q1930 rfl (by decide +kernel) (fun w hw => ?_)
  refine v_aload_n hX dX8_load_23 rfl ?_
  refine v_iconst hX dX8_load_24 lim1 ?_
  refine tv_putI hX dX8_load_25 hw 26 (by decide) rfl q1935 rfl (by decide +kernel) (fun w hw => ?_)
  refine v_aload_n hX dX8_load_28 rfl ?_
  refine tv_call0 hX rfl dX8_load_29 q1897 cf_X8_beginReading hw (mX8_beginReading hw) rfl ⟨rfl, rfl⟩ ⟨Nat.le_of_ble_eq_true rfl, Nat.le_of_ble_eq_true rfl⟩ rfl (Nat.le_of_ble_eq_true rfl) ⟨Nat.le_of_ble_eq_true rfl, Nat.le_of_ble_eq_true rfl⟩ (fun w hw => ?_)
  refine v_aload_n hX dX8_load_32 rfl ?_
  refine tv_call0 hX rfl dX8_load_33 q2122 cf_X8_readToken hw (mX8_readToken hw (ld0_X hB)) rfl ⟨rfl, rfl⟩ ⟨Nat.le_of_ble_eq_true rfl, Nat.le_of_ble_eq_true rfl⟩ rfl (Nat.le_of_ble_eq_true rfl) ⟨Nat.le_of_ble_eq_true rfl, Nat.le_of_ble_eq_true rfl⟩ (fun w hw => ?_)
  obtain ⟨x1, hx1⟩ : ∃ z, z = tw_ld0 x := ⟨_, rfl⟩
  have hw : tW (xG X) G wB x1 w := hw.to hx1
  have hr1 : tRX x1 := by rw [hx1]; exact ld0_RX hB
  refine loop_up (701) (fun i => ∀ w, tW (xG X) G wB ((it (tw_ld1) (i) x1)) w → V X w 0 0 36 [some (.ref (G 61))] []) ?_ ?_ 0 (Nat.zero_le _) w hw
  · intro w hw
    have hN := ld_end hr1
    have hry := (ld_prog hr1 701).1
    obtain ⟨z, hz⟩ : ∃ z, it tw_ld1 701 x1 = z := ⟨_, rfl⟩
    rw [hz] at hw hN hry
    refine v_aload_n hX dX8_load_36 rfl ?_
    refine tv_callR hX rfl dX8_load_37 q2152 cf_X8_isWell hw (mX8_isWell hw) rfl ⟨rfl, rfl⟩ ⟨Nat.le_of_ble_eq_true rfl, Nat.le_of_ble_eq_true rfl⟩ rfl (Nat.le_of_ble_eq_true rfl) ⟨Nat.le_of_ble_eq_true rfl, Nat.le_of_ble_eq_true rfl⟩ ?_
    refine v_ifb_eq (tgt := 57) hX dX8_load_40 rfl (fun c_40 => ?_) (fun c_40 => ?_)
    · skip
      refine v_aload_n hX dX8_load_57 rfl ?_
      refine v_aload_n hX dX8_load_58 rfl ?_
      refine tv_getI hX dX8_load_59 hw 26 (by decide) rfl q1935 ?_
      refine tv_putI hX dX8_load_62 hw 17 (by decide) rfl q1926 rfl (by decide +kernel) (fun w hw => ?_)
      refine v_aload_n hX dX8_load_65 rfl ?_
      refine tv_callR hX rfl dX8_load_66 q2152 cf_X8_isWell hw (mX8_isWell hw) rfl ⟨rfl, rfl⟩ ⟨Nat.le_of_ble_eq_true rfl, Nat.le_of_ble_eq_true rfl⟩ rfl (Nat.le_of_ble_eq_true rfl) ⟨Nat.le_of_ble_eq_true rfl, Nat.le_of_ble_eq_true rfl⟩ ?_
      refine v_ifb_ne (tgt := 78) hX dX8_load_69 rfl (fun c_69 => ?_) (fun c_69 => ?_)
      · refine v_aload_n hX dX8_load_78 rfl ?_
        refine tv_call0 hX rfl dX8_load_79 q1901 cf_X8_keepReading hw (mX8_keepReading hw (hry.2.2.of (sI_n (by decide)) (sI_n (by decide)) rfl)) rfl ⟨rfl, rfl⟩ ⟨Nat.le_of_ble_eq_true rfl, Nat.le_of_ble_eq_true rfl⟩ rfl (Nat.le_of_ble_eq_true rfl) ⟨Nat.le_of_ble_eq_true rfl, Nat.le_of_ble_eq_true rfl⟩ (fun w hw => ?_)
        refine v_aload_n hX dX8_load_82 rfl ?_
        refine tv_callR hX rfl dX8_load_83 q2225 cf_X8_many hw (mX8_many0 hw (by rw [keep_j (by decide) (by decide) (by decide) (by decide), sI_n (by decide), ← hz, ld_2, hx1, ld0_2]; exact ha)) rfl ⟨rfl, rfl⟩ ⟨Nat.le_of_ble_eq_true rfl, Nat.le_of_ble_eq_true rfl⟩ rfl (Nat.le_of_ble_eq_true rfl) ⟨Nat.le_of_ble_eq_true rfl, Nat.le_of_ble_eq_true rfl⟩ ?_
        exact v_iret hX dX8_load_86 hR (Nat.le_of_ble_eq_true rfl) (Nat.le_of_ble_eq_true rfl) (⟨by rw [tw_load, ← hx1, hz, tw_ldk, if_pos c_69], hw.to (by rw [tw_load, ← hx1, hz, tw_ldk, if_pos c_69])⟩)
      · refine v_aload_n hX dX8_load_72 rfl ?_
        refine v_iconst hX dX8_load_73 li1 ?_
        refine tv_callV hX rfl dX8_load_74 q2103 cf_X8_fails hw (mX8_fails hw _) rfl ⟨rfl, rfl⟩ ⟨Nat.le_of_ble_eq_true rfl, Nat.le_of_ble_eq_true rfl⟩ rfl (Nat.le_of_ble_eq_true rfl) ⟨Nat.le_of_ble_eq_true rfl, Nat.le_of_ble_eq_true rfl⟩ (fun w hw => ?_)
        exact v_iret hX dX8_load_77 hR (Nat.le_of_ble_eq_true rfl) (Nat.le_of_ble_eq_true rfl) (⟨by rw [tw_load, ← hx1, hz, tw_ldk, if_neg c_69], hw.to (by rw [tw_load, ← hx1, hz, tw_ldk, if_neg c_69])⟩)
    · refine v_aload_n hX dX8_load_43 rfl ?_
      refine tv_getI hX dX8_load_44 hw 23 (by decide) rfl q1932 ?_
      refine v_if_eq (tgt := 57) hX dX8_load_47 rfl (fun c_47 => ?_) (fun c_47 => ?_)
      · skip
        refine v_aload_n hX dX8_load_57 rfl ?_
        refine v_aload_n hX dX8_load_58 rfl ?_
        refine tv_getI hX dX8_load_59 hw 26 (by decide) rfl q1935 ?_
        refine tv_putI hX dX8_load_62 hw 17 (by decide) rfl q1926 rfl (by decide +kernel) (fun w hw => ?_)
        refine v_aload_n hX dX8_load_65 rfl ?_
        refine tv_callR hX rfl dX8_load_66 q2152 cf_X8_isWell hw (mX8_isWell hw) rfl ⟨rfl, rfl⟩ ⟨Nat.le_of_ble_eq_true rfl, Nat.le_of_ble_eq_true rfl⟩ rfl (Nat.le_of_ble_eq_true rfl) ⟨Nat.le_of_ble_eq_true rfl, Nat.le_of_ble_eq_true rfl⟩ ?_
        refine v_ifb_ne (tgt := 78) hX dX8_load_69 rfl (fun c_69 => ?_) (fun c_69 => ?_)
        · refine v_aload_n hX dX8_load_78 rfl ?_
          refine tv_call0 hX rfl dX8_load_79 q1901 cf_X8_keepReading hw (mX8_keepReading hw (hry.2.2.of (sI_n (by decide)) (sI_n (by decide)) rfl)) rfl ⟨rfl, rfl⟩ ⟨Nat.le_of_ble_eq_true rfl, Nat.le_of_ble_eq_true rfl⟩ rfl (Nat.le_of_ble_eq_true rfl) ⟨Nat.le_of_ble_eq_true rfl, Nat.le_of_ble_eq_true rfl⟩ (fun w hw => ?_)
          refine v_aload_n hX dX8_load_82 rfl ?_
          refine tv_callR hX rfl dX8_load_83 q2225 cf_X8_many hw (mX8_many0 hw (by rw [keep_j (by decide) (by decide) (by decide) (by decide), sI_n (by decide), ← hz, ld_2, hx1, ld0_2]; exact ha)) rfl ⟨rfl, rfl⟩ ⟨Nat.le_of_ble_eq_true rfl, Nat.le_of_ble_eq_true rfl⟩ rfl (Nat.le_of_ble_eq_true rfl) ⟨Nat.le_of_ble_eq_true rfl, Nat.le_of_ble_eq_true rfl⟩ ?_
          exact v_iret hX dX8_load_86 hR (Nat.le_of_ble_eq_true rfl) (Nat.le_of_ble_eq_true rfl) (⟨by rw [tw_load, ← hx1, hz, tw_ldk, if_pos c_69], hw.to (by rw [tw_load, ← hx1, hz, tw_ldk, if_pos c_69])⟩)
        · refine v_aload_n hX dX8_load_72 rfl ?_
          refine v_iconst hX dX8_load_73 li1 ?_
          refine tv_callV hX rfl dX8_load_74 q2103 cf_X8_fails hw (mX8_fails hw _) rfl ⟨rfl, rfl⟩ ⟨Nat.le_of_ble_eq_true rfl, Nat.le_of_ble_eq_true rfl⟩ rfl (Nat.le_of_ble_eq_true rfl) ⟨Nat.le_of_ble_eq_true rfl, Nat.le_of_ble_eq_true rfl⟩ (fun w hw => ?_)
          exact v_iret hX dX8_load_77 hR (Nat.le_of_ble_eq_true rfl) (Nat.le_of_ble_eq_true rfl) (⟨by rw [tw_load, ← hx1, hz, tw_ldk, if_neg c_69], hw.to (by rw [tw_load, ← hx1, hz, tw_ldk, if_neg c_69])⟩)
      · refine v_aload_n hX dX8_load_50 rfl ?_
        refine tv_call0 hX rfl dX8_load_51 q2156 cf_X8_readStatement hw (mX8_readStatement hw hry) rfl ⟨rfl, rfl⟩ ⟨Nat.le_of_ble_eq_true rfl, Nat.le_of_ble_eq_true rfl⟩ rfl (Nat.le_of_ble_eq_true rfl) ⟨Nat.le_of_ble_eq_true rfl, Nat.le_of_ble_eq_true rfl⟩ (fun w hw => ?_)
        refine v_goto (tgt := 36) hX dX8_load_54 rfl ?_
        exact absurd hN (fun q => q.elim (fun a => a c_40) c_47)
  · intro i hi ih w hw
    have ih : ∀ w, tW (xG X) G wB ((tw_ld1) i ((it (tw_ld1) (i) x1))) w → V X w 0 0 36 [some (.ref (G 61))] [] := ih
    have hry := (ld_prog hr1 i).1
    have hst : (¬ (it tw_ld1 i x1).1 26 = -1 ∨ (it tw_ld1 i x1).1 23 = 0) → it tw_ld1 701 x1 = it tw_ld1 i x1 := fun q => it_stuck (Nat.le_of_lt hi) (fun j => by rcases q with q | q; exact if_neg q; (by_cases c : (it tw_ld1 i x1).1 26 = -1; exact (if_pos c).trans (if_pos q); exact if_neg c))
    generalize (it (tw_ld1) (i) x1) = y at hw ih hry hst
    refine v_aload_n hX dX8_load_36 rfl ?_
    refine tv_callR hX rfl dX8_load_37 q2152 cf_X8_isWell hw (mX8_isWell hw) rfl ⟨rfl, rfl⟩ ⟨Nat.le_of_ble_eq_true rfl, Nat.le_of_ble_eq_true rfl⟩ rfl (Nat.le_of_ble_eq_true rfl) ⟨Nat.le_of_ble_eq_true rfl, Nat.le_of_ble_eq_true rfl⟩ ?_
    refine v_ifb_eq (tgt := 57) hX dX8_load_40 rfl (fun c_40 => ?_) (fun c_40 => ?_)
    · have hz := hst (Or.inl c_40)
      generalize y = z at hz hw hry
      refine v_aload_n hX dX8_load_57 rfl ?_
      refine v_aload_n hX dX8_load_58 rfl ?_
      refine tv_getI hX dX8_load_59 hw 26 (by decide) rfl q1935 ?_
      refine tv_putI hX dX8_load_62 hw 17 (by decide) rfl q1926 rfl (by decide +kernel) (fun w hw => ?_)
      refine v_aload_n hX dX8_load_65 rfl ?_
      refine tv_callR hX rfl dX8_load_66 q2152 cf_X8_isWell hw (mX8_isWell hw) rfl ⟨rfl, rfl⟩ ⟨Nat.le_of_ble_eq_true rfl, Nat.le_of_ble_eq_true rfl⟩ rfl (Nat.le_of_ble_eq_true rfl) ⟨Nat.le_of_ble_eq_true rfl, Nat.le_of_ble_eq_true rfl⟩ ?_
      refine v_ifb_ne (tgt := 78) hX dX8_load_69 rfl (fun c_69 => ?_) (fun c_69 => ?_)
      · refine v_aload_n hX dX8_load_78 rfl ?_
        refine tv_call0 hX rfl dX8_load_79 q1901 cf_X8_keepReading hw (mX8_keepReading hw (hry.2.2.of (sI_n (by decide)) (sI_n (by decide)) rfl)) rfl ⟨rfl, rfl⟩ ⟨Nat.le_of_ble_eq_true rfl, Nat.le_of_ble_eq_true rfl⟩ rfl (Nat.le_of_ble_eq_true rfl) ⟨Nat.le_of_ble_eq_true rfl, Nat.le_of_ble_eq_true rfl⟩ (fun w hw => ?_)
        refine v_aload_n hX dX8_load_82 rfl ?_
        refine tv_callR hX rfl dX8_load_83 q2225 cf_X8_many hw (mX8_many0 hw (by rw [keep_j (by decide) (by decide) (by decide) (by decide), sI_n (by decide), ← hz, ld_2, hx1, ld0_2]; exact ha)) rfl ⟨rfl, rfl⟩ ⟨Nat.le_of_ble_eq_true rfl, Nat.le_of_ble_eq_true rfl⟩ rfl (Nat.le_of_ble_eq_true rfl) ⟨Nat.le_of_ble_eq_true rfl, Nat.le_of_ble_eq_true rfl⟩ ?_
        exact v_iret hX dX8_load_86 hR (Nat.le_of_ble_eq_true rfl) (Nat.le_of_ble_eq_true rfl) (⟨by rw [tw_load, ← hx1, hz, tw_ldk, if_pos c_69], hw.to (by rw [tw_load, ← hx1, hz, tw_ldk, if_pos c_69])⟩)
      · refine v_aload_n hX dX8_load_72 rfl ?_
        refine v_iconst hX dX8_load_73 li1 ?_
        refine tv_callV hX rfl dX8_load_74 q2103 cf_X8_fails hw (mX8_fails hw _) rfl ⟨rfl, rfl⟩ ⟨Nat.le_of_ble_eq_true rfl, Nat.le_of_ble_eq_true rfl⟩ rfl (Nat.le_of_ble_eq_true rfl) ⟨Nat.le_of_ble_eq_true rfl, Nat.le_of_ble_eq_true rfl⟩ (fun w hw => ?_)
        exact v_iret hX dX8_load_77 hR (Nat.le_of_ble_eq_true rfl) (Nat.le_of_ble_eq_true rfl) (⟨by rw [tw_load, ← hx1, hz, tw_ldk, if_neg c_69], hw.to (by rw [tw_load, ← hx1, hz, tw_ldk, if_neg c_69])⟩)
    · refine v_aload_n hX dX8_load_43 rfl ?_
      refine tv_getI hX dX8_load_44 hw 23 (by decide) rfl q1932 ?_
      refine v_if_eq (tgt := 57) hX dX8_load_47 rfl (fun c_47 => ?_) (fun c_47 => ?_)
      · have hz := hst (Or.inr c_47)
        generalize y = z at hz hw hry
        refine v_aload_n hX dX8_load_57 rfl ?_
        refine v_aload_n hX dX8_load_58 rfl ?_
        refine tv_getI hX dX8_load_59 hw 26 (by decide) rfl q1935 ?_
        refine tv_putI hX dX8_load_62 hw 17 (by decide) rfl q1926 rfl (by decide +kernel) (fun w hw => ?_)
        refine v_aload_n hX dX8_load_65 rfl ?_
        refine tv_callR hX rfl dX8_load_66 q2152 cf_X8_isWell hw (mX8_isWell hw) rfl ⟨rfl, rfl⟩ ⟨Nat.le_of_ble_eq_true rfl, Nat.le_of_ble_eq_true rfl⟩ rfl (Nat.le_of_ble_eq_true rfl) ⟨Nat.le_of_ble_eq_true rfl, Nat.le_of_ble_eq_true rfl⟩ ?_
        refine v_ifb_ne (tgt := 78) hX dX8_load_69 rfl (fun c_69 => ?_) (fun c_69 => ?_)
        · refine v_aload_n hX dX8_load_78 rfl ?_
          refine tv_call0 hX rfl dX8_load_79 q1901 cf_X8_keepReading hw (mX8_keepReading hw (hry.2.2.of (sI_n (by decide)) (sI_n (by decide)) rfl)) rfl ⟨rfl, rfl⟩ ⟨Nat.le_of_ble_eq_true rfl, Nat.le_of_ble_eq_true rfl⟩ rfl (Nat.le_of_ble_eq_true rfl) ⟨Nat.le_of_ble_eq_true rfl, Nat.le_of_ble_eq_true rfl⟩ (fun w hw => ?_)
          refine v_aload_n hX dX8_load_82 rfl ?_
          refine tv_callR hX rfl dX8_load_83 q2225 cf_X8_many hw (mX8_many0 hw (by rw [keep_j (by decide) (by decide) (by decide) (by decide), sI_n (by decide), ← hz, ld_2, hx1, ld0_2]; exact ha)) rfl ⟨rfl, rfl⟩ ⟨Nat.le_of_ble_eq_true rfl, Nat.le_of_ble_eq_true rfl⟩ rfl (Nat.le_of_ble_eq_true rfl) ⟨Nat.le_of_ble_eq_true rfl, Nat.le_of_ble_eq_true rfl⟩ ?_
          exact v_iret hX dX8_load_86 hR (Nat.le_of_ble_eq_true rfl) (Nat.le_of_ble_eq_true rfl) (⟨by rw [tw_load, ← hx1, hz, tw_ldk, if_pos c_69], hw.to (by rw [tw_load, ← hx1, hz, tw_ldk, if_pos c_69])⟩)
        · refine v_aload_n hX dX8_load_72 rfl ?_
          refine v_iconst hX dX8_load_73 li1 ?_
          refine tv_callV hX rfl dX8_load_74 q2103 cf_X8_fails hw (mX8_fails hw _) rfl ⟨rfl, rfl⟩ ⟨Nat.le_of_ble_eq_true rfl, Nat.le_of_ble_eq_true rfl⟩ rfl (Nat.le_of_ble_eq_true rfl) ⟨Nat.le_of_ble_eq_true rfl, Nat.le_of_ble_eq_true rfl⟩ (fun w hw => ?_)
          exact v_iret hX dX8_load_77 hR (Nat.le_of_ble_eq_true rfl) (Nat.le_of_ble_eq_true rfl) (⟨by rw [tw_load, ← hx1, hz, tw_ldk, if_neg c_69], hw.to (by rw [tw_load, ← hx1, hz, tw_ldk, if_neg c_69])⟩)
      · refine v_aload_n hX dX8_load_50 rfl ?_
        refine tv_call0 hX rfl dX8_load_51 q2156 cf_X8_readStatement hw (mX8_readStatement hw hry) rfl ⟨rfl, rfl⟩ ⟨Nat.le_of_ble_eq_true rfl, Nat.le_of_ble_eq_true rfl⟩ rfl (Nat.le_of_ble_eq_true rfl) ⟨Nat.le_of_ble_eq_true rfl, Nat.le_of_ble_eq_true rfl⟩ (fun w hw => ?_)
        refine v_goto (tgt := 36) hX dX8_load_54 rfl ?_
        exact ih w (hw.to (by rw [tw_ld1, if_pos c_40, if_neg c_47]))
end
