/-! the twin: edits -/
noncomputable section
set_option maxRecDepth 100000
def ne_ (x : TS) : Nat := (x.1 3).toNatClampNeg
def nf_ (x : TS) : Nat := (x.1 4).toNatClampNeg
/-- how many edits are kept, where the first one stands -/
def tEd (x : TS) : Prop := ne_ x ≤ 10 ∧ x.1 3 = nI (ne_ x) ∧ nf_ x < 10 ∧ x.1 4 = nI (nf_ x)
def tw_slot (i : Int32) (x : TS) : Int32 := 2 + ((x.1 4 + i) - (x.1 4 + i) / 10 * 10)
theorem slot_n {x : TS} {i f : Nat} (hf : x.1 4 = nI f) (h : f ≤ 100) (hi : i ≤ 100) : tw_slot (nI i) x = nI (2 + (f + i) % 10) := by
  unfold tw_slot
  rw [hf, nI_add, show (10 : Int32) = nI 10 from rfl, pk_rem (by omega) (by decide) (by decide), show (2 : Int32) = nI 2 from rfl, nI_add]
theorem slot_in {x : TS} {i f : Nat} (hf : x.1 4 = nI f) (h : f ≤ 100) (hi : i ≤ 100) : vp_in (tw_slot (nI i) x) 12 := by
  rw [slot_n hf h hi]; exact vp_in_nI (by omega) (by decide)
def tw_kp1 (x : TS) : TS := if x.1 3 = 10 then (fun y => sI y 3 (y.1 3 - 1)) (sI x 4 ((x.1 4 + 1) - (x.1 4 + 1) / 10 * 10)) else x
def tw_kp2 (y : TS) : TS := (fun z => sI z 3 (z.1 3 + 1)) (tw_cr 0 (tw_slot (y.1 3) y) y)
def tw_kp_d (x : TS) : TS := tw_kp2 (tw_kp1 x)
theorem tw_kp_ex : ∃ g : TS → TS, ∀ x, g x = tw_kp_d x := ⟨tw_kp_d, fun _ => rfl⟩
noncomputable def tw_kp : TS → TS := Classical.choose tw_kp_ex
theorem tw_kp_eq (x : TS) : tw_kp x = tw_kp2 (tw_kp1 x) := Classical.choose_spec tw_kp_ex x
theorem kp1_e {x : TS} (h : tEd x) : ∃ e f : Nat, e ≤ 9 ∧ f < 10 ∧ (tw_kp1 x).1 3 = nI e ∧ (tw_kp1 x).1 4 = nI f ∧ (x.1 3 = 10 → e = 9 ∧ f = (nf_ x + 1) % 10) ∧ (¬ x.1 3 = 10 → e = ne_ x ∧ f = nf_ x) := by
  obtain ⟨h1, h2, h3, h4⟩ := h
  unfold tw_kp1
  split
  · rename_i c
    refine ⟨9, (nf_ x + 1) % 10, by decide, Nat.mod_lt _ (by decide), ?_, ?_, fun _ => ⟨rfl, rfl⟩, fun q => absurd c q⟩
    · show (sI _ 3 _).1 3 = _
      rw [sI_s, sI_n (by decide), c]; rfl
    · show (sI _ 3 _).1 4 = _
      rw [sI_n (by decide), sI_s, h4, nI_1, show (10 : Int32) = nI 10 from rfl, pk_rem (by omega) (by decide) (by decide)]
  · rename_i c
    refine ⟨ne_ x, nf_ x, ?_, h3, h2, h4, fun q => absurd q c, fun _ => ⟨rfl, rfl⟩⟩
    rcases Nat.lt_or_ge (ne_ x) 10 with z | z
    · omega
    · exact absurd (by rw [h2, show ne_ x = 10 by omega]; rfl) c
theorem kp1_2 {x : TS} {j : Nat} (h3 : j ≠ 3) (h4 : j ≠ 4) : (tw_kp1 x).1 j = x.1 j := by
  unfold tw_kp1
  split
  · show (sI _ 3 _).1 j = _
    rw [sI_n h3, sI_n h4]
  · rfl
theorem kp1_r {x : TS} : (tw_kp1 x).2 = x.2 := by
  unfold tw_kp1
  split <;> rfl
theorem kp_j {x : TS} {j : Nat} (h3 : j ≠ 3) (h4 : j ≠ 4) : (tw_kp x).1 j = x.1 j := by
  rw [tw_kp_eq]
  unfold tw_kp2
  show (sI _ 3 _).1 j = _
  rw [sI_n h3, cr_j, kp1_2 h3 h4]
/-- what keep does: the row goes to its slot, the others stay -/
theorem kp_rows {x : TS} (h : tEd x) {r : Nat → Int32} (h0 : rIs x 0 r) : ∃ e f : Nat, e ≤ 9 ∧ f < 10 ∧ (tw_kp x).1 3 = nI (e + 1) ∧ (tw_kp x).1 4 = nI f ∧ (x.1 3 = 10 → e = 9 ∧ f = (nf_ x + 1) % 10) ∧ (¬ x.1 3 = 10 → e = ne_ x ∧ f = nf_ x) ∧ rIs (tw_kp x) (2 + (f + e) % 10) r ∧ ∀ k r', k ≠ 2 + (f + e) % 10 → rIs x k r' → rIs (tw_kp x) k r' := by
  obtain ⟨e, f, he, hf, e3, e4, q1, q2⟩ := kp1_e h
  refine ⟨e, f, he, hf, ?_, ?_, q1, q2, ?_, ?_⟩
  · rw [tw_kp_eq]; unfold tw_kp2
    show (sI _ 3 _).1 3 = _
    rw [sI_s, cr_j, e3, nI_1]
  · rw [tw_kp_eq]; unfold tw_kp2
    show (sI _ 3 _).1 4 = _
    rw [sI_n (by decide), cr_j, e4]
  · rw [tw_kp_eq]; unfold tw_kp2
    have h1 : rIs (tw_kp1 x) 0 r := h0.keep (by rw [kp1_r])
    rw [e3, slot_n e4 (by omega) (by omega)]
    exact (h1.cr (f := 0) (t := 2 + (f + e) % 10) (by decide) (by omega) (by omega)).keep rfl
  · intro k r' hk hr
    rw [tw_kp_eq]; unfold tw_kp2
    have h1 : rIs (tw_kp1 x) k r' := hr.keep (by rw [kp1_r])
    rw [e3, slot_n e4 (by omega) (by omega)]
    exact (h1.cro (f := 0) (t := 2 + (f + e) % 10) (by decide) (by omega) (by omega) hk).keep rfl
theorem kp_I {r : Nat → Int32} {x : TS} (h : tIr r x) (he : tEd x) : tIr r (tw_kp x) := by
  obtain ⟨e, f, a1, a2, -, -, -, -, -, h7⟩ := kp_rows he h.2
  exact ⟨(kp_j (by decide) (by decide)).trans h.1, h7 0 r (by omega) h.2⟩
theorem tEd.z {x : TS} (h : tEd x) : tEd (tw_z x) := h
theorem cf_X8_slot : CF RX8 yX8_slot cX8_slot 2 (some .int) 1 := ⟨q2574, qs113, q150, q2575, by decide +kernel⟩
theorem mX8_slot {Γ : Gm} {l : Launch} {G : Nat → Nat} {wB : Wd} {x : TS} {w : Wd} (hw : tW Γ G wB x w) (i : Int32) : MRd Γ l yX8_slot (ws_ yX8_slot cX8_slot 2 (some .int)) (rl 0 0 0) [.ref (G 61), .int i] w (.int (tw_slot i x)) := by
  refine M0.of (lv := [some (.ref (G 61)), some (.int i)]) (by decide) (Nat.le_of_ble_eq_true rfl) 0 rfl rfl ?_
  intro X hX hR hl hG hnm
  subst hl; subst hG
  refine v_iconst hX dX8_slot_0 li2 ?_
  refine v_aload_n hX dX8_slot_1 rfl ?_
  refine tv_getI hX dX8_slot_2 hw 4 (by decide) rfl q1913 ?_
  refine v_iload_n hX dX8_slot_5 rfl ?_
  refine v_iadd hX dX8_slot_6 ?_
  refine v_bipush hX dX8_slot_7 lb10 ?_
  refine v_irem hX dX8_slot_9 (by decide) ?_
  refine v_iadd hX dX8_slot_10 ?_
  exact v_iret hX dX8_slot_11 hR (Nat.le_of_ble_eq_true rfl) (Nat.le_of_ble_eq_true rfl) (⟨rfl, rfl⟩)
theorem cf_X8_keep : CF RX8 yX8_keep cX8_keep 1 none 0 := ⟨q2586, qs115, q150, q2587, by decide +kernel⟩
theorem mX8_keep {Γ : Gm} {l : Launch} {G : Nat → Nat} {wB : Wd} {x : TS} {w : Wd} (hw : tW Γ G wB x w) (he : tEd x) : M0 Γ l yX8_keep (ws_ yX8_keep cX8_keep 1 none) (rl 1 0 0) 0 0 [.ref (G 61)] w (fun r9 w9 => r9 = none ∧ tW Γ G wB (tw_kp x) w9) := by
  refine M0.of (lv := [some (.ref (G 61))]) (by decide) (Nat.le_of_ble_eq_true rfl) 0 rfl rfl ?_
  intro X hX hR hl hG hnm
  subst hl; subst hG
  refine v_aload_n hX dX8_keep_0 rfl ?_
  refine tv_getI hX dX8_keep_1 hw 3 (by decide) rfl q1912 ?_
  refine v_bipush hX dX8_keep_4 lb10 ?_
  refine v_icmp_ne (tgt := 32) hX dX8_keep_6 rfl (fun c_6 => ?_) (fun c_6 => ?_)
  · have hw : tW (xG X) G wB (tw_kp1 x) w := hw.to (by first | (rw [tw_kp1, if_neg c_6]; done) | (rw [tw_kp1, if_neg c_6]; rfl))
    obtain ⟨e, f, hee, hff, e3, e4, -, -⟩ := kp1_e he
    refine v_aload_n hX dX8_keep_32 rfl ?_
    refine v_iconst hX dX8_keep_33 li0 ?_
    refine v_aload_n hX dX8_keep_34 rfl ?_
    refine v_aload_n hX dX8_keep_35 rfl ?_
    refine tv_getI hX dX8_keep_36 hw 3 (by decide) rfl q1912 ?_
    refine tv_callR hX rfl dX8_keep_39 q2572 cf_X8_slot hw (mX8_slot hw _) rfl ⟨rfl, rfl⟩ ⟨Nat.le_of_ble_eq_true rfl, Nat.le_of_ble_eq_true rfl⟩ rfl (Nat.le_of_ble_eq_true rfl) ⟨Nat.le_of_ble_eq_true rfl, Nat.le_of_ble_eq_true rfl⟩ ?_
    refine tv_call0 hX rfl dX8_keep_42 q1905 cf_X8_copyRow hw (mX8_copyRow hw _ _ (vin (by decide)) (by rw [e3]; exact slot_in e4 (by omega) (by omega))) rfl ⟨rfl, rfl⟩ ⟨Nat.le_of_ble_eq_true rfl, Nat.le_of_ble_eq_true rfl⟩ rfl (Nat.le_of_ble_eq_true rfl) ⟨Nat.le_of_ble_eq_true rfl, Nat.le_of_ble_eq_true rfl⟩ (fun w hw => ?_)
    refine v_aload_n hX dX8_keep_45 rfl ?_
    refine v_dup hX dX8_keep_46 rfl ?_
    refine tv_getI hX dX8_keep_47 hw 3 (by decide) rfl q1912 ?_
    refine v_iconst hX dX8_keep_50 li1 ?_
    refine v_iadd hX dX8_keep_51 ?_
    refine tv_putI hX dX8_keep_52 hw 3 (by decide) rfl q1912 rfl (by decide +kernel) (fun w hw => ?_)
    exact v_vret hX dX8_keep_55 hR (Nat.le_of_ble_eq_true rfl) (Nat.le_of_ble_eq_true rfl) (⟨rfl, hw.to (tw_kp_eq x)⟩)
  · refine v_aload_n hX dX8_keep_9 rfl ?_
    refine v_aload_n hX dX8_keep_10 rfl ?_
    refine tv_getI hX dX8_keep_11 hw 4 (by decide) rfl q1913 ?_
    refine v_iconst hX dX8_keep_14 li1 ?_
    refine v_iadd hX dX8_keep_15 ?_
    refine v_bipush hX dX8_keep_16 lb10 ?_
    refine v_irem hX dX8_keep_18 (by decide) ?_
    refine tv_putI hX dX8_keep_19 hw 4 (by decide) rfl q1913 rfl (by decide +kernel) (fun w hw => ?_)
    refine v_aload_n hX dX8_keep_22 rfl ?_
    refine v_dup hX dX8_keep_23 rfl ?_
    refine tv_getI hX dX8_keep_24 hw 3 (by decide) rfl q1912 ?_
    refine v_iconst hX dX8_keep_27 li1 ?_
    refine v_isub hX dX8_keep_28 ?_
    refine tv_putI hX dX8_keep_29 hw 3 (by decide) rfl q1912 rfl (by decide +kernel) (fun w hw => ?_)
    have hw : tW (xG X) G wB (tw_kp1 x) w := hw.to (by first | (rw [tw_kp1, if_pos c_6]; done) | (rw [tw_kp1, if_pos c_6]; rfl))
    obtain ⟨e, f, hee, hff, e3, e4, -, -⟩ := kp1_e he
    refine v_aload_n hX dX8_keep_32 rfl ?_
    refine v_iconst hX dX8_keep_33 li0 ?_
    refine v_aload_n hX dX8_keep_34 rfl ?_
    refine v_aload_n hX dX8_keep_35 rfl ?_
    refine tv_getI hX dX8_keep_36 hw 3 (by decide) rfl q1912 ?_
    refine tv_callR hX rfl dX8_keep_39 q2572 cf_X8_slot hw (mX8_slot hw _) rfl ⟨rfl, rfl⟩ ⟨Nat.le_of_ble_eq_true rfl, Nat.le_of_ble_eq_true rfl⟩ rfl (Nat.le_of_ble_eq_true rfl) ⟨Nat.le_of_ble_eq_true rfl, Nat.le_of_ble_eq_true rfl⟩ ?_
    refine tv_call0 hX rfl dX8_keep_42 q1905 cf_X8_copyRow hw (mX8_copyRow hw _ _ (vin (by decide)) (by rw [e3]; exact slot_in e4 (by omega) (by omega))) rfl ⟨rfl, rfl⟩ ⟨Nat.le_of_ble_eq_true rfl, Nat.le_of_ble_eq_true rfl⟩ rfl (Nat.le_of_ble_eq_true rfl) ⟨Nat.le_of_ble_eq_true rfl, Nat.le_of_ble_eq_true rfl⟩ (fun w hw => ?_)
    refine v_aload_n hX dX8_keep_45 rfl ?_
    refine v_dup hX dX8_keep_46 rfl ?_
    refine tv_getI hX dX8_keep_47 hw 3 (by decide) rfl q1912 ?_
    refine v_iconst hX dX8_keep_50 li1 ?_
    refine v_iadd hX dX8_keep_51 ?_
    refine tv_putI hX dX8_keep_52 hw 3 (by decide) rfl q1912 rfl (by decide +kernel) (fun w hw => ?_)
    exact v_vret hX dX8_keep_55 hR (Nat.le_of_ble_eq_true rfl) (Nat.le_of_ble_eq_true rfl) (⟨rfl, hw.to (tw_kp_eq x)⟩)
def tw_und2 (y : TS) : Int32 × TS := ((tw_cr (tw_slot (y.1 3) y) 0 y).1 3, tw_cr (tw_slot (y.1 3) y) 0 y)
def tw_undo (x : TS) : Int32 × TS := if (tw_z x).1 3 = 0 then tw_f 1 x else tw_und2 (sI (tw_z x) 3 ((tw_z x).1 3 - 1))
theorem und_in {x : TS} (h : tEd x) (c : ¬ x.1 3 = 0) : vp_in (tw_slot ((sI x 3 (x.1 3 - 1)).1 3) (sI x 3 (x.1 3 - 1))) 12 := by
  obtain ⟨h1, h2, h3, h4⟩ := h
  obtain ⟨j, hj⟩ : ∃ j, ne_ x = j + 1 := ⟨ne_ x - 1, by rcases Nat.eq_zero_or_pos (ne_ x) with z | z; (rw [h2, z] at c; exact absurd rfl c); omega⟩
  have e : (sI x 3 (x.1 3 - 1)).1 3 = nI j := by rw [sI_s, h2, hj, nI_pred]
  rw [e]
  exact slot_in (x := sI x 3 (x.1 3 - 1)) ((sI_n (by decide)).trans h4) (by omega) (by omega)
theorem cf_X8_undo : CF RX8 yX8_undo cX8_undo 1 (some .int) 0 := ⟨q2569, q2570, q150, q2571, by decide +kernel⟩
theorem mX8_undo {Γ : Gm} {l : Launch} {G : Nat → Nat} {wB : Wd} {x : TS} {w : Wd} (hw : tW Γ G wB x w) (he : tEd x) : M0 Γ l yX8_undo (ws_ yX8_undo cX8_undo 1 (some .int)) (rl 1 0 0) 0 0 [.ref (G 61)] w (fun r9 w9 => r9 = some (.int (tw_undo x).1) ∧ tW Γ G wB ((tw_undo x).2) w9) := by
  refine M0.of (lv := [some (.ref (G 61))]) (by decide) (Nat.le_of_ble_eq_true rfl) 0 rfl rfl ?_
  intro X hX hR hl hG hnm
  subst hl; subst hG
  refine v_aload_n hX dX8_undo_0 rfl ?_
  refine v_iconst hX dX8_undo_1 li0 ?_
  refine tv_putI hX dX8_undo_2 hw 0 (by decide) rfl q1909 rfl (by decide +kernel) (fun w hw => ?_)
  refine v_aload_n hX dX8_undo_5 rfl ?_
  refine tv_getI hX dX8_undo_6 hw 3 (by decide) rfl q1912 ?_
  refine v_if_ne (tgt := 18) hX dX8_undo_9 rfl (fun c_9 => ?_) (fun c_9 => ?_)
  · refine v_aload_n hX dX8_undo_18 rfl ?_
    refine v_dup hX dX8_undo_19 rfl ?_
    refine tv_getI hX dX8_undo_20 hw 3 (by decide) rfl q1912 ?_
    refine v_iconst hX dX8_undo_23 li1 ?_
    refine v_isub hX dX8_undo_24 ?_
    refine tv_putI hX dX8_undo_25 hw 3 (by decide) rfl q1912 rfl (by decide +kernel) (fun w hw => ?_)
    refine v_aload_n hX dX8_undo_28 rfl ?_
    refine v_aload_n hX dX8_undo_29 rfl ?_
    refine v_aload_n hX dX8_undo_30 rfl ?_
    refine tv_getI hX dX8_undo_31 hw 3 (by decide) rfl q1912 ?_
    refine tv_callR hX rfl dX8_undo_34 q2572 cf_X8_slot hw (mX8_slot hw _) rfl ⟨rfl, rfl⟩ ⟨Nat.le_of_ble_eq_true rfl, Nat.le_of_ble_eq_true rfl⟩ rfl (Nat.le_of_ble_eq_true rfl) ⟨Nat.le_of_ble_eq_true rfl, Nat.le_of_ble_eq_true rfl⟩ ?_
    refine v_iconst hX dX8_undo_37 li0 ?_
    refine tv_call0 hX rfl dX8_undo_38 q1905 cf_X8_copyRow hw (mX8_copyRow hw _ _ (und_in he.z c_9) (vin (by decide))) rfl ⟨rfl, rfl⟩ ⟨Nat.le_of_ble_eq_true rfl, Nat.le_of_ble_eq_true rfl⟩ rfl (Nat.le_of_ble_eq_true rfl) ⟨Nat.le_of_ble_eq_true rfl, Nat.le_of_ble_eq_true rfl⟩ (fun w hw => ?_)
    refine v_aload_n hX dX8_undo_41 rfl ?_
    refine tv_getI hX dX8_undo_42 hw 3 (by decide) rfl q1912 ?_
    exact v_iret hX dX8_undo_45 hR (Nat.le_of_ble_eq_true rfl) (Nat.le_of_ble_eq_true rfl) (⟨(by first | (rw [tw_undo, if_neg c_9]; done) | (rw [tw_undo, if_neg c_9]; rfl)), hw.to (by first | (rw [tw_undo, if_neg c_9]; done) | (rw [tw_undo, if_neg c_9]; rfl))⟩)
  · refine v_aload_n hX dX8_undo_12 rfl ?_
    refine v_iconst hX dX8_undo_13 li1 ?_
    refine tv_callV hX rfl dX8_undo_14 q2103 cf_X8_fails hw (mX8_fails hw _) rfl ⟨rfl, rfl⟩ ⟨Nat.le_of_ble_eq_true rfl, Nat.le_of_ble_eq_true rfl⟩ rfl (Nat.le_of_ble_eq_true rfl) ⟨Nat.le_of_ble_eq_true rfl, Nat.le_of_ble_eq_true rfl⟩ (fun w hw => ?_)
    exact v_iret hX dX8_undo_17 hR (Nat.le_of_ble_eq_true rfl) (Nat.le_of_ble_eq_true rfl) (⟨(by first | (rw [tw_undo, if_pos c_9]; done) | (rw [tw_undo, if_pos c_9]; rfl)), hw.to (by first | (rw [tw_undo, if_pos c_9]; done) | (rw [tw_undo, if_pos c_9]; rfl))⟩)
abbrev tw_sb (b i v : Int32) (y : TS) : TS := tU y 1 (y.1 2 + 9 + 3 * b + i) v
def tw_ad2 (p st v b : Int32) (z : TS) : Int32 × TS := (b, tw_sb b 2 v (tw_sb b 1 st (tw_sb b 0 p (tU z 1 (z.1 2 + 8) (b + 1)))))
def tw_ad1 (p st v : Int32) (z : TS) : Int32 × TS := tw_ad2 p st v (tG z 8) z
def tw_add (p st v : Int32) (x : TS) : Int32 × TS := if 0 ≤ p ∧ p ≤ (tw_z x).1 5 - 1 then if 0 ≤ v ∧ v ≤ (tw_z x).1 13 - 1 then if 0 ≤ st ∧ st ≤ 999 then if tG (tw_z x) 8 = 20 then tw_f 3 x else tw_ad1 p st v (tw_kp (tw_z x)) else tw_f 2 x else tw_f 1 x else tw_f 1 x
theorem ad_b {r : Nat → Int32} {x z : TS} (h : tIr r x) (hz : tIr r z) (hk : rOK r) (c : ¬ tG x 8 = 20) : vp_in (tG z 8) 20 := by
  have e1 : tG x 8 = nI (rn r) := (tG_r (i := 8) (k := 0) h.2 h.1 (by decide) (by decide)).trans hk.1.2
  have e2 : tG z 8 = nI (rn r) := (tG_r (i := 8) (k := 0) hz.2 hz.1 (by decide) (by decide)).trans hk.1.2
  rw [e2]
  rw [e1] at c
  have h20 := hk.1.1
  refine vnI ?_ (by decide)
  rcases Nat.lt_or_ge (rn r) 20 with q | q
  · exact q
  · exact absurd (by rw [show rn r = 20 by omega]; rfl) c
theorem cf_X8_addBatch : CF RX8 yX8_addBatch cX8_addBatch 5 (some .int) 3 := ⟨q2577, q2578, q150, q2579, by decide +kernel⟩
theorem mX8_addBatch {Γ : Gm} {l : Launch} {G : Nat → Nat} {wB : Wd} {x : TS} {w : Wd} (hw : tW Γ G wB x w) {r : Nat → Int32} (hI : tIr r x) (hk : rOK r) (he : tEd x) (p st v : Int32) : M0 Γ l yX8_addBatch (ws_ yX8_addBatch cX8_addBatch 5 (some .int)) (rl 2 0 0) 0 0 [.ref (G 61), .int p, .int st, .int v] w (fun r9 w9 => r9 = some (.int (tw_add p st v x).1) ∧ tW Γ G wB ((tw_add p st v x).2) w9) := by
  refine M0.of (lv := [some (.ref (G 61)), some (.int p), some (.int st), some (.int v), none]) (by decide) (Nat.le_of_ble_eq_true rfl) 1 rfl rfl ?_
  intro X hX hR hl hG hnm
  subst hl; subst hG
  refine v_aload_n hX dX8_addBatch_0 rfl ?_
  refine v_iconst hX dX8_addBatch_1 li0 ?_
  refine tv_putI hX dX8_addBatch_2 hw 0 (by decide) rfl q1909 rfl (by decide +kernel) (fun w hw => ?_)
  refine v_aload_n hX dX8_addBatch_5 rfl ?_
  refine v_iload_n hX dX8_addBatch_6 rfl ?_
  refine tv_callR hX rfl dX8_addBatch_7 q2580 cf_X8_isProduct hw (mX8_isProduct hw _) rfl ⟨rfl, rfl⟩ ⟨Nat.le_of_ble_eq_true rfl, Nat.le_of_ble_eq_true rfl⟩ rfl (Nat.le_of_ble_eq_true rfl) ⟨Nat.le_of_ble_eq_true rfl, Nat.le_of_ble_eq_true rfl⟩ ?_
  refine v_ifb_eq (tgt := 21) hX dX8_addBatch_10 rfl (fun c_10 => ?_) (fun c_10 => ?_)
  · refine v_aload_n hX dX8_addBatch_21 rfl ?_
    refine v_iconst hX dX8_addBatch_22 li1 ?_
    refine tv_callV hX rfl dX8_addBatch_23 q2103 cf_X8_fails hw (mX8_fails hw _) rfl ⟨rfl, rfl⟩ ⟨Nat.le_of_ble_eq_true rfl, Nat.le_of_ble_eq_true rfl⟩ rfl (Nat.le_of_ble_eq_true rfl) ⟨Nat.le_of_ble_eq_true rfl, Nat.le_of_ble_eq_true rfl⟩ (fun w hw => ?_)
    exact v_iret hX dX8_addBatch_26 hR (Nat.le_of_ble_eq_true rfl) (Nat.le_of_ble_eq_true rfl) (⟨(by first | (rw [tw_add, if_neg c_10]; done) | (rw [tw_add, if_neg c_10]; rfl)), hw.to (by first | (rw [tw_add, if_neg c_10]; done) | (rw [tw_add, if_neg c_10]; rfl))⟩)
  · refine v_aload_n hX dX8_addBatch_13 rfl ?_
    refine v_iload_n hX dX8_addBatch_14 rfl ?_
    refine tv_callR hX rfl dX8_addBatch_15 q2253 cf_X8_isWave hw (mX8_isWave hw _) rfl ⟨rfl, rfl⟩ ⟨Nat.le_of_ble_eq_true rfl, Nat.le_of_ble_eq_true rfl⟩ rfl (Nat.le_of_ble_eq_true rfl) ⟨Nat.le_of_ble_eq_true rfl, Nat.le_of_ble_eq_true rfl⟩ ?_
    refine v_ifb_ne (tgt := 27) hX dX8_addBatch_18 rfl (fun c_18 => ?_) (fun c_18 => ?_)
    · refine v_iload_n hX dX8_addBatch_27 rfl ?_
      refine v_iconst hX dX8_addBatch_28 li0 ?_
      refine v_sipush hX dX8_addBatch_29 ls999 ?_
      refine v_callSr hX rfl dX8_addBatch_32 q2115 cs_X8_isIn (mX8_isIn _ _ _) rfl ⟨rfl, rfl⟩ ⟨Nat.le_of_ble_eq_true rfl, Nat.le_of_ble_eq_true rfl⟩ rfl (Nat.le_of_ble_eq_true rfl) ⟨Nat.le_of_ble_eq_true rfl, Nat.le_of_ble_eq_true rfl⟩ ?_
      refine v_ifb_ne (tgt := 44) hX dX8_addBatch_35 rfl (fun c_35 => ?_) (fun c_35 => ?_)
      · refine v_aload_n hX dX8_addBatch_44 rfl ?_
        refine tv_callR hX rfl dX8_addBatch_45 q2225 cf_X8_many hw (mX8_many hw (hI.z.P hk)) rfl ⟨rfl, rfl⟩ ⟨Nat.le_of_ble_eq_true rfl, Nat.le_of_ble_eq_true rfl⟩ rfl (Nat.le_of_ble_eq_true rfl) ⟨Nat.le_of_ble_eq_true rfl, Nat.le_of_ble_eq_true rfl⟩ ?_
        refine v_bipush hX dX8_addBatch_48 lb20 ?_
        refine v_icmp_ne (tgt := 59) hX dX8_addBatch_50 rfl (fun c_50 => ?_) (fun c_50 => ?_)
        · refine v_aload_n hX dX8_addBatch_59 rfl ?_
          refine tv_call0 hX rfl dX8_addBatch_60 q2584 cf_X8_keep hw (mX8_keep hw he.z) rfl ⟨rfl, rfl⟩ ⟨Nat.le_of_ble_eq_true rfl, Nat.le_of_ble_eq_true rfl⟩ rfl (Nat.le_of_ble_eq_true rfl) ⟨Nat.le_of_ble_eq_true rfl, Nat.le_of_ble_eq_true rfl⟩ (fun w hw => ?_)
          have hz0 : (tw_kp (tw_z x)).1 2 = 0 := (kp_I hI.z he.z).1
          have hb20 := ad_b hI.z (kp_I hI.z he.z) hk c_50
          refine v_aload_n hX dX8_addBatch_63 rfl ?_
          refine tv_callR hX rfl dX8_addBatch_64 q2225 cf_X8_many hw (mX8_many hw ((kp_I hI.z he.z).P hk)) rfl ⟨rfl, rfl⟩ ⟨Nat.le_of_ble_eq_true rfl, Nat.le_of_ble_eq_true rfl⟩ rfl (Nat.le_of_ble_eq_true rfl) ⟨Nat.le_of_ble_eq_true rfl, Nat.le_of_ble_eq_true rfl⟩ ?_
          refine v_istore (lv' := [_, _, _, _, _]) hX dX8_addBatch_67 (Nat.le_of_ble_eq_true rfl) rfl rfl ?_
          refine v_aload_n hX dX8_addBatch_69 rfl ?_
          refine v_bipush hX dX8_addBatch_70 lb8 ?_
          refine v_iload hX dX8_addBatch_72 rfl ?_
          refine v_iconst hX dX8_addBatch_74 li1 ?_
          refine v_iadd hX dX8_addBatch_75 ?_
          refine tv_call0 hX rfl dX8_addBatch_76 q2548 cf_X8_set hw (mX8_set hw _ _ (gidx0 (Or.inl hz0) (vin (by decide)))) rfl ⟨rfl, rfl⟩ ⟨Nat.le_of_ble_eq_true rfl, Nat.le_of_ble_eq_true rfl⟩ rfl (Nat.le_of_ble_eq_true rfl) ⟨Nat.le_of_ble_eq_true rfl, Nat.le_of_ble_eq_true rfl⟩ (fun w hw => ?_)
          refine v_aload_n hX dX8_addBatch_79 rfl ?_
          refine v_iload hX dX8_addBatch_80 rfl ?_
          refine v_iconst hX dX8_addBatch_82 li0 ?_
          refine v_iload_n hX dX8_addBatch_83 rfl ?_
          refine tv_call0 hX rfl dX8_addBatch_84 q2524 cf_X8_setBatch hw (mX8_setBatch hw _ _ _ (bidx0 (Or.inl hz0) hb20 (vin (by decide)))) rfl ⟨rfl, rfl⟩ ⟨Nat.le_of_ble_eq_true rfl, Nat.le_of_ble_eq_true rfl⟩ rfl (Nat.le_of_ble_eq_true rfl) ⟨Nat.le_of_ble_eq_true rfl, Nat.le_of_ble_eq_true rfl⟩ (fun w hw => ?_)
          refine v_aload_n hX dX8_addBatch_87 rfl ?_
          refine v_iload hX dX8_addBatch_88 rfl ?_
          refine v_iconst hX dX8_addBatch_90 li1 ?_
          refine v_iload_n hX dX8_addBatch_91 rfl ?_
          refine tv_call0 hX rfl dX8_addBatch_92 q2524 cf_X8_setBatch hw (mX8_setBatch hw _ _ _ (bidx0 (Or.inl hz0) hb20 (vin (by decide)))) rfl ⟨rfl, rfl⟩ ⟨Nat.le_of_ble_eq_true rfl, Nat.le_of_ble_eq_true rfl⟩ rfl (Nat.le_of_ble_eq_true rfl) ⟨Nat.le_of_ble_eq_true rfl, Nat.le_of_ble_eq_true rfl⟩ (fun w hw => ?_)
          refine v_aload_n hX dX8_addBatch_95 rfl ?_
          refine v_iload hX dX8_addBatch_96 rfl ?_
          refine v_iconst hX dX8_addBatch_98 li2 ?_
          refine v_iload_n hX dX8_addBatch_99 rfl ?_
          refine tv_call0 hX rfl dX8_addBatch_100 q2524 cf_X8_setBatch hw (mX8_setBatch hw _ _ _ (bidx0 (Or.inl hz0) hb20 (vin (by decide)))) rfl ⟨rfl, rfl⟩ ⟨Nat.le_of_ble_eq_true rfl, Nat.le_of_ble_eq_true rfl⟩ rfl (Nat.le_of_ble_eq_true rfl) ⟨Nat.le_of_ble_eq_true rfl, Nat.le_of_ble_eq_true rfl⟩ (fun w hw => ?_)
          refine v_iload hX dX8_addBatch_103 rfl ?_
          exact v_iret hX dX8_addBatch_105 hR (Nat.le_of_ble_eq_true rfl) (Nat.le_of_ble_eq_true rfl) (⟨(by first | (rw [tw_add, if_pos c_10, if_pos c_18, if_pos c_35, if_neg c_50]; done) | (rw [tw_add, if_pos c_10, if_pos c_18, if_pos c_35, if_neg c_50]; rfl)), hw.to (by first | (rw [tw_add, if_pos c_10, if_pos c_18, if_pos c_35, if_neg c_50]; done) | (rw [tw_add, if_pos c_10, if_pos c_18, if_pos c_35, if_neg c_50]; rfl))⟩)
        · refine v_aload_n hX dX8_addBatch_53 rfl ?_
          refine v_iconst hX dX8_addBatch_54 li3 ?_
          refine tv_callV hX rfl dX8_addBatch_55 q2103 cf_X8_fails hw (mX8_fails hw _) rfl ⟨rfl, rfl⟩ ⟨Nat.le_of_ble_eq_true rfl, Nat.le_of_ble_eq_true rfl⟩ rfl (Nat.le_of_ble_eq_true rfl) ⟨Nat.le_of_ble_eq_true rfl, Nat.le_of_ble_eq_true rfl⟩ (fun w hw => ?_)
          exact v_iret hX dX8_addBatch_58 hR (Nat.le_of_ble_eq_true rfl) (Nat.le_of_ble_eq_true rfl) (⟨(by first | (rw [tw_add, if_pos c_10, if_pos c_18, if_pos c_35, if_pos c_50]; done) | (rw [tw_add, if_pos c_10, if_pos c_18, if_pos c_35, if_pos c_50]; rfl)), hw.to (by first | (rw [tw_add, if_pos c_10, if_pos c_18, if_pos c_35, if_pos c_50]; done) | (rw [tw_add, if_pos c_10, if_pos c_18, if_pos c_35, if_pos c_50]; rfl))⟩)
      · refine v_aload_n hX dX8_addBatch_38 rfl ?_
        refine v_iconst hX dX8_addBatch_39 li2 ?_
        refine tv_callV hX rfl dX8_addBatch_40 q2103 cf_X8_fails hw (mX8_fails hw _) rfl ⟨rfl, rfl⟩ ⟨Nat.le_of_ble_eq_true rfl, Nat.le_of_ble_eq_true rfl⟩ rfl (Nat.le_of_ble_eq_true rfl) ⟨Nat.le_of_ble_eq_true rfl, Nat.le_of_ble_eq_true rfl⟩ (fun w hw => ?_)
        exact v_iret hX dX8_addBatch_43 hR (Nat.le_of_ble_eq_true rfl) (Nat.le_of_ble_eq_true rfl) (⟨(by first | (rw [tw_add, if_pos c_10, if_pos c_18, if_neg c_35]; done) | (rw [tw_add, if_pos c_10, if_pos c_18, if_neg c_35]; rfl)), hw.to (by first | (rw [tw_add, if_pos c_10, if_pos c_18, if_neg c_35]; done) | (rw [tw_add, if_pos c_10, if_pos c_18, if_neg c_35]; rfl))⟩)
    · refine v_aload_n hX dX8_addBatch_21 rfl ?_
      refine v_iconst hX dX8_addBatch_22 li1 ?_
      refine tv_callV hX rfl dX8_addBatch_23 q2103 cf_X8_fails hw (mX8_fails hw _) rfl ⟨rfl, rfl⟩ ⟨Nat.le_of_ble_eq_true rfl, Nat.le_of_ble_eq_true rfl⟩ rfl (Nat.le_of_ble_eq_true rfl) ⟨Nat.le_of_ble_eq_true rfl, Nat.le_of_ble_eq_true rfl⟩ (fun w hw => ?_)
      exact v_iret hX dX8_addBatch_26 hR (Nat.le_of_ble_eq_true rfl) (Nat.le_of_ble_eq_true rfl) (⟨(by first | (rw [tw_add, if_pos c_10, if_neg c_18]; done) | (rw [tw_add, if_pos c_10, if_neg c_18]; rfl)), hw.to (by first | (rw [tw_add, if_pos c_10, if_neg c_18]; done) | (rw [tw_add, if_pos c_10, if_neg c_18]; rfl))⟩)
def tw_st2 (b v : Int32) (i : Int32) (z : TS) : Int32 × TS := (tB z b i, tw_sb b i v z)
def tw_sst (b st : Int32) (x : TS) : Int32 × TS := if 0 ≤ b ∧ b ≤ tG (tw_z x) 8 - 1 then if 0 ≤ st ∧ st ≤ 999 then tw_st2 b st 1 (tw_kp (tw_z x)) else tw_f 2 x else tw_f 1 x
def tw_swv (b v : Int32) (x : TS) : Int32 × TS := if 0 ≤ b ∧ b ≤ tG (tw_z x) 8 - 1 then if 0 ≤ v ∧ v ≤ (tw_z x).1 13 - 1 then tw_st2 b v 2 (tw_kp (tw_z x)) else tw_f 1 x else tw_f 1 x
def tw_chg (i v : Int32) (x : TS) : Int32 × TS := (fun z => (tG z i, tU z 1 (z.1 2 + i) v)) (tw_kp x)
def tw_sset (i v : Int32) (x : TS) : Int32 × TS := if 0 ≤ i ∧ i ≤ 6 then if tw_least i ≤ v ∧ v ≤ tw_greatest i then tw_chg i v (tw_z x) else tw_f 1 x else tw_f 1 x
def tw_spol (v : Int32) (x : TS) : Int32 × TS := if 0 ≤ v ∧ v ≤ 2 then tw_chg 7 v (tw_z x) else tw_f 1 x
theorem cf_X8_setStart : CF RX8 yX8_setStart cX8_setStart 4 (some .int) 2 := ⟨q2597, q2598, q150, q2599, by decide +kernel⟩
theorem mX8_setStart {Γ : Gm} {l : Launch} {G : Nat → Nat} {wB : Wd} {x : TS} {w : Wd} (hw : tW Γ G wB x w) {r : Nat → Int32} (hI : tIr r x) (hk : rOK r) (he : tEd x) (b st : Int32) : M0 Γ l yX8_setStart (ws_ yX8_setStart cX8_setStart 4 (some .int)) (rl 3 0 0) 0 0 [.ref (G 61), .int b, .int st] w (fun r9 w9 => r9 = some (.int (tw_sst b st x).1) ∧ tW Γ G wB ((tw_sst b st x).2) w9) := by
  refine M0.of (lv := [some (.ref (G 61)), some (.int b), some (.int st), none]) (by decide) (Nat.le_of_ble_eq_true rfl) 1 rfl rfl ?_
  intro X hX hR hl hG hnm
  subst hl; subst hG
  refine v_aload_n hX dX8_setStart_0 rfl ?_
  refine v_iconst hX dX8_setStart_1 li0 ?_
  refine tv_putI hX dX8_setStart_2 hw 0 (by decide) rfl q1909 rfl (by decide +kernel) (fun w hw => ?_)
  refine v_aload_n hX dX8_setStart_5 rfl ?_
  refine v_iload_n hX dX8_setStart_6 rfl ?_
  refine tv_callR hX rfl dX8_setStart_7 q2265 cf_X8_isBatch hw (mX8_isBatch hw (hI.z.P hk) _) rfl ⟨rfl, rfl⟩ ⟨Nat.le_of_ble_eq_true rfl, Nat.le_of_ble_eq_true rfl⟩ rfl (Nat.le_of_ble_eq_true rfl) ⟨Nat.le_of_ble_eq_true rfl, Nat.le_of_ble_eq_true rfl⟩ ?_
  refine v_ifb_ne (tgt := 19) hX dX8_setStart_10 rfl (fun c_10 => ?_) (fun c_10 => ?_)
  · refine v_iload_n hX dX8_setStart_19 rfl ?_
    refine v_iconst hX dX8_setStart_20 li0 ?_
    refine v_sipush hX dX8_setStart_21 ls999 ?_
    refine v_callSr hX rfl dX8_setStart_24 q2115 cs_X8_isIn (mX8_isIn _ _ _) rfl ⟨rfl, rfl⟩ ⟨Nat.le_of_ble_eq_true rfl, Nat.le_of_ble_eq_true rfl⟩ rfl (Nat.le_of_ble_eq_true rfl) ⟨Nat.le_of_ble_eq_true rfl, Nat.le_of_ble_eq_true rfl⟩ ?_
    refine v_ifb_ne (tgt := 36) hX dX8_setStart_27 rfl (fun c_27 => ?_) (fun c_27 => ?_)
    · refine v_aload_n hX dX8_setStart_36 rfl ?_
      refine tv_call0 hX rfl dX8_setStart_37 q2584 cf_X8_keep hw (mX8_keep hw he.z) rfl ⟨rfl, rfl⟩ ⟨Nat.le_of_ble_eq_true rfl, Nat.le_of_ble_eq_true rfl⟩ rfl (Nat.le_of_ble_eq_true rfl) ⟨Nat.le_of_ble_eq_true rfl, Nat.le_of_ble_eq_true rfl⟩ (fun w hw => ?_)
      refine v_aload_n hX dX8_setStart_40 rfl ?_
      refine v_iload_n hX dX8_setStart_41 rfl ?_
      refine v_iconst hX dX8_setStart_42 li1 ?_
      refine tv_callR hX rfl dX8_setStart_43 q2269 cf_X8_batch hw (mX8_batch hw _ _ (bidx0 (Or.inl (kp_I hI.z he.z).1) (b20 (hI.z.P hk) (isb (hI.z.P hk) c_10)) (vin (by decide)))) rfl ⟨rfl, rfl⟩ ⟨Nat.le_of_ble_eq_true rfl, Nat.le_of_ble_eq_true rfl⟩ rfl (Nat.le_of_ble_eq_true rfl) ⟨Nat.le_of_ble_eq_true rfl, Nat.le_of_ble_eq_true rfl⟩ ?_
      refine v_istore_n (lv' := [_, _, _, _]) hX dX8_setStart_46 (Nat.le_of_ble_eq_true rfl) rfl rfl ?_
      refine v_aload_n hX dX8_setStart_47 rfl ?_
      refine v_iload_n hX dX8_setStart_48 rfl ?_
      refine v_iconst hX dX8_setStart_49 li1 ?_
      refine v_iload_n hX dX8_setStart_50 rfl ?_
      refine tv_call0 hX rfl dX8_setStart_51 q2524 cf_X8_setBatch hw (mX8_setBatch hw _ _ _ (bidx0 (Or.inl (kp_I hI.z he.z).1) (b20 (hI.z.P hk) (isb (hI.z.P hk) c_10)) (vin (by decide)))) rfl ⟨rfl, rfl⟩ ⟨Nat.le_of_ble_eq_true rfl, Nat.le_of_ble_eq_true rfl⟩ rfl (Nat.le_of_ble_eq_true rfl) ⟨Nat.le_of_ble_eq_true rfl, Nat.le_of_ble_eq_true rfl⟩ (fun w hw => ?_)
      refine v_iload_n hX dX8_setStart_54 rfl ?_
      exact v_iret hX dX8_setStart_55 hR (Nat.le_of_ble_eq_true rfl) (Nat.le_of_ble_eq_true rfl) (⟨(by first | (rw [tw_sst, if_pos c_10, if_pos c_27]; done) | (rw [tw_sst, if_pos c_10, if_pos c_27]; rfl)), hw.to (by first | (rw [tw_sst, if_pos c_10, if_pos c_27]; done) | (rw [tw_sst, if_pos c_10, if_pos c_27]; rfl))⟩)
    · refine v_aload_n hX dX8_setStart_30 rfl ?_
      refine v_iconst hX dX8_setStart_31 li2 ?_
      refine tv_callV hX rfl dX8_setStart_32 q2103 cf_X8_fails hw (mX8_fails hw _) rfl ⟨rfl, rfl⟩ ⟨Nat.le_of_ble_eq_true rfl, Nat.le_of_ble_eq_true rfl⟩ rfl (Nat.le_of_ble_eq_true rfl) ⟨Nat.le_of_ble_eq_true rfl, Nat.le_of_ble_eq_true rfl⟩ (fun w hw => ?_)
      exact v_iret hX dX8_setStart_35 hR (Nat.le_of_ble_eq_true rfl) (Nat.le_of_ble_eq_true rfl) (⟨(by first | (rw [tw_sst, if_pos c_10, if_neg c_27]; done) | (rw [tw_sst, if_pos c_10, if_neg c_27]; rfl)), hw.to (by first | (rw [tw_sst, if_pos c_10, if_neg c_27]; done) | (rw [tw_sst, if_pos c_10, if_neg c_27]; rfl))⟩)
  · refine v_aload_n hX dX8_setStart_13 rfl ?_
    refine v_iconst hX dX8_setStart_14 li1 ?_
    refine tv_callV hX rfl dX8_setStart_15 q2103 cf_X8_fails hw (mX8_fails hw _) rfl ⟨rfl, rfl⟩ ⟨Nat.le_of_ble_eq_true rfl, Nat.le_of_ble_eq_true rfl⟩ rfl (Nat.le_of_ble_eq_true rfl) ⟨Nat.le_of_ble_eq_true rfl, Nat.le_of_ble_eq_true rfl⟩ (fun w hw => ?_)
    exact v_iret hX dX8_setStart_18 hR (Nat.le_of_ble_eq_true rfl) (Nat.le_of_ble_eq_true rfl) (⟨(by first | (rw [tw_sst, if_neg c_10]; done) | (rw [tw_sst, if_neg c_10]; rfl)), hw.to (by first | (rw [tw_sst, if_neg c_10]; done) | (rw [tw_sst, if_neg c_10]; rfl))⟩)
theorem cf_X8_setWave : CF RX8 yX8_setWave cX8_setWave 4 (some .int) 2 := ⟨q2601, q2602, q150, q2603, by decide +kernel⟩
theorem mX8_setWave {Γ : Gm} {l : Launch} {G : Nat → Nat} {wB : Wd} {x : TS} {w : Wd} (hw : tW Γ G wB x w) {r : Nat → Int32} (hI : tIr r x) (hk : rOK r) (he : tEd x) (b v : Int32) : M0 Γ l yX8_setWave (ws_ yX8_setWave cX8_setWave 4 (some .int)) (rl 3 0 0) 0 0 [.ref (G 61), .int b, .int v] w (fun r9 w9 => r9 = some (.int (tw_swv b v x).1) ∧ tW Γ G wB ((tw_swv b v x).2) w9) := by
  refine M0.of (lv := [some (.ref (G 61)), some (.int b), some (.int v), none]) (by decide) (Nat.le_of_ble_eq_true rfl) 1 rfl rfl ?_
  intro X hX hR hl hG hnm
  subst hl; subst hG
  refine v_aload_n hX dX8_setWave_0 rfl ?_
  refine v_iconst hX dX8_setWave_1 li0 ?_
  refine tv_putI hX dX8_setWave_2 hw 0 (by decide) rfl q1909 rfl (by decide +kernel) (fun w hw => ?_)
  refine v_aload_n hX dX8_setWave_5 rfl ?_
  refine v_iload_n hX dX8_setWave_6 rfl ?_
  refine tv_callR hX rfl dX8_setWave_7 q2265 cf_X8_isBatch hw (mX8_isBatch hw (hI.z.P hk) _) rfl ⟨rfl, rfl⟩ ⟨Nat.le_of_ble_eq_true rfl, Nat.le_of_ble_eq_true rfl⟩ rfl (Nat.le_of_ble_eq_true rfl) ⟨Nat.le_of_ble_eq_true rfl, Nat.le_of_ble_eq_true rfl⟩ ?_
  refine v_ifb_eq (tgt := 21) hX dX8_setWave_10 rfl (fun c_10 => ?_) (fun c_10 => ?_)
  · refine v_aload_n hX dX8_setWave_21 rfl ?_
    refine v_iconst hX dX8_setWave_22 li1 ?_
    refine tv_callV hX rfl dX8_setWave_23 q2103 cf_X8_fails hw (mX8_fails hw _) rfl ⟨rfl, rfl⟩ ⟨Nat.le_of_ble_eq_true rfl, Nat.le_of_ble_eq_true rfl⟩ rfl (Nat.le_of_ble_eq_true rfl) ⟨Nat.le_of_ble_eq_true rfl, Nat.le_of_ble_eq_true rfl⟩ (fun w hw => ?_)
    exact v_iret hX dX8_setWave_26 hR (Nat.le_of_ble_eq_true rfl) (Nat.le_of_ble_eq_true rfl) (⟨(by first | (rw [tw_swv, if_neg c_10]; done) | (rw [tw_swv, if_neg c_10]; rfl)), hw.to (by first | (rw [tw_swv, if_neg c_10]; done) | (rw [tw_swv, if_neg c_10]; rfl))⟩)
  · refine v_aload_n hX dX8_setWave_13 rfl ?_
    refine v_iload_n hX dX8_setWave_14 rfl ?_
    refine tv_callR hX rfl dX8_setWave_15 q2253 cf_X8_isWave hw (mX8_isWave hw _) rfl ⟨rfl, rfl⟩ ⟨Nat.le_of_ble_eq_true rfl, Nat.le_of_ble_eq_true rfl⟩ rfl (Nat.le_of_ble_eq_true rfl) ⟨Nat.le_of_ble_eq_true rfl, Nat.le_of_ble_eq_true rfl⟩ ?_
    refine v_ifb_ne (tgt := 27) hX dX8_setWave_18 rfl (fun c_18 => ?_) (fun c_18 => ?_)
    · refine v_aload_n hX dX8_setWave_27 rfl ?_
      refine tv_call0 hX rfl dX8_setWave_28 q2584 cf_X8_keep hw (mX8_keep hw he.z) rfl ⟨rfl, rfl⟩ ⟨Nat.le_of_ble_eq_true rfl, Nat.le_of_ble_eq_true rfl⟩ rfl (Nat.le_of_ble_eq_true rfl) ⟨Nat.le_of_ble_eq_true rfl, Nat.le_of_ble_eq_true rfl⟩ (fun w hw => ?_)
      refine v_aload_n hX dX8_setWave_31 rfl ?_
      refine v_iload_n hX dX8_setWave_32 rfl ?_
      refine v_iconst hX dX8_setWave_33 li2 ?_
      refine tv_callR hX rfl dX8_setWave_34 q2269 cf_X8_batch hw (mX8_batch hw _ _ (bidx0 (Or.inl (kp_I hI.z he.z).1) (b20 (hI.z.P hk) (isb (hI.z.P hk) c_10)) (vin (by decide)))) rfl ⟨rfl, rfl⟩ ⟨Nat.le_of_ble_eq_true rfl, Nat.le_of_ble_eq_true rfl⟩ rfl (Nat.le_of_ble_eq_true rfl) ⟨Nat.le_of_ble_eq_true rfl, Nat.le_of_ble_eq_true rfl⟩ ?_
      refine v_istore_n (lv' := [_, _, _, _]) hX dX8_setWave_37 (Nat.le_of_ble_eq_true rfl) rfl rfl ?_
      refine v_aload_n hX dX8_setWave_38 rfl ?_
      refine v_iload_n hX dX8_setWave_39 rfl ?_
      refine v_iconst hX dX8_setWave_40 li2 ?_
      refine v_iload_n hX dX8_setWave_41 rfl ?_
      refine tv_call0 hX rfl dX8_setWave_42 q2524 cf_X8_setBatch hw (mX8_setBatch hw _ _ _ (bidx0 (Or.inl (kp_I hI.z he.z).1) (b20 (hI.z.P hk) (isb (hI.z.P hk) c_10)) (vin (by decide)))) rfl ⟨rfl, rfl⟩ ⟨Nat.le_of_ble_eq_true rfl, Nat.le_of_ble_eq_true rfl⟩ rfl (Nat.le_of_ble_eq_true rfl) ⟨Nat.le_of_ble_eq_true rfl, Nat.le_of_ble_eq_true rfl⟩ (fun w hw => ?_)
      refine v_iload_n hX dX8_setWave_45 rfl ?_
      exact v_iret hX dX8_setWave_46 hR (Nat.le_of_ble_eq_true rfl) (Nat.le_of_ble_eq_true rfl) (⟨(by first | (rw [tw_swv, if_pos c_10, if_pos c_18]; done) | (rw [tw_swv, if_pos c_10, if_pos c_18]; rfl)), hw.to (by first | (rw [tw_swv, if_pos c_10, if_pos c_18]; done) | (rw [tw_swv, if_pos c_10, if_pos c_18]; rfl))⟩)
    · refine v_aload_n hX dX8_setWave_21 rfl ?_
      refine v_iconst hX dX8_setWave_22 li1 ?_
      refine tv_callV hX rfl dX8_setWave_23 q2103 cf_X8_fails hw (mX8_fails hw _) rfl ⟨rfl, rfl⟩ ⟨Nat.le_of_ble_eq_true rfl, Nat.le_of_ble_eq_true rfl⟩ rfl (Nat.le_of_ble_eq_true rfl) ⟨Nat.le_of_ble_eq_true rfl, Nat.le_of_ble_eq_true rfl⟩ (fun w hw => ?_)
      exact v_iret hX dX8_setWave_26 hR (Nat.le_of_ble_eq_true rfl) (Nat.le_of_ble_eq_true rfl) (⟨(by first | (rw [tw_swv, if_pos c_10, if_neg c_18]; done) | (rw [tw_swv, if_pos c_10, if_neg c_18]; rfl)), hw.to (by first | (rw [tw_swv, if_pos c_10, if_neg c_18]; done) | (rw [tw_swv, if_pos c_10, if_neg c_18]; rfl))⟩)
theorem cf_X8_change : CF RX8 yX8_change cX8_change 4 (some .int) 2 := ⟨q2610, qs116, q150, q2611, by decide +kernel⟩
theorem mX8_change {Γ : Gm} {l : Launch} {G : Nat → Nat} {wB : Wd} {x : TS} {w : Wd} (hw : tW Γ G wB x w) {r : Nat → Int32} (hI : tIr r x) (he : tEd x) (i v : Int32) (hi : vp_in i 9) : M0 Γ l yX8_change (ws_ yX8_change cX8_change 4 (some .int)) (rl 2 0 0) 0 0 [.ref (G 61), .int i, .int v] w (fun r9 w9 => r9 = some (.int (tw_chg i v x).1) ∧ tW Γ G wB ((tw_chg i v x).2) w9) := by
  refine M0.of (lv := [some (.ref (G 61)), some (.int i), some (.int v), none]) (by decide) (Nat.le_of_ble_eq_true rfl) 1 rfl rfl ?_
  intro X hX hR hl hG hnm
  subst hl; subst hG
  refine v_aload_n hX dX8_change_0 rfl ?_
  refine tv_call0 hX rfl dX8_change_1 q2584 cf_X8_keep hw (mX8_keep hw he) rfl ⟨rfl, rfl⟩ ⟨Nat.le_of_ble_eq_true rfl, Nat.le_of_ble_eq_true rfl⟩ rfl (Nat.le_of_ble_eq_true rfl) ⟨Nat.le_of_ble_eq_true rfl, Nat.le_of_ble_eq_true rfl⟩ (fun w hw => ?_)
  refine v_aload_n hX dX8_change_4 rfl ?_
  refine v_iload_n hX dX8_change_5 rfl ?_
  refine tv_callR hX rfl dX8_change_6 q2229 cf_X8_get hw (mX8_get hw _ (gidx0 (Or.inl (kp_I hI he).1) hi)) rfl ⟨rfl, rfl⟩ ⟨Nat.le_of_ble_eq_true rfl, Nat.le_of_ble_eq_true rfl⟩ rfl (Nat.le_of_ble_eq_true rfl) ⟨Nat.le_of_ble_eq_true rfl, Nat.le_of_ble_eq_true rfl⟩ ?_
  refine v_istore_n (lv' := [_, _, _, _]) hX dX8_change_9 (Nat.le_of_ble_eq_true rfl) rfl rfl ?_
  refine v_aload_n hX dX8_change_10 rfl ?_
  refine v_iload_n hX dX8_change_11 rfl ?_
  refine v_iload_n hX dX8_change_12 rfl ?_
  refine tv_call0 hX rfl dX8_change_13 q2548 cf_X8_set hw (mX8_set hw _ _ (gidx0 (Or.inl (kp_I hI he).1) hi)) rfl ⟨rfl, rfl⟩ ⟨Nat.le_of_ble_eq_true rfl, Nat.le_of_ble_eq_true rfl⟩ rfl (Nat.le_of_ble_eq_true rfl) ⟨Nat.le_of_ble_eq_true rfl, Nat.le_of_ble_eq_true rfl⟩ (fun w hw => ?_)
  refine v_iload_n hX dX8_change_16 rfl ?_
  exact v_iret hX dX8_change_17 hR (Nat.le_of_ble_eq_true rfl) (Nat.le_of_ble_eq_true rfl) (⟨rfl, hw⟩)
theorem cf_X8_setSetting : CF RX8 yX8_setSetting cX8_setSetting 3 (some .int) 2 := ⟨q2605, q2606, q150, q2607, by decide +kernel⟩
theorem mX8_setSetting {Γ : Gm} {l : Launch} {G : Nat → Nat} {wB : Wd} {x : TS} {w : Wd} (hw : tW Γ G wB x w) {r : Nat → Int32} (hI : tIr r x) (hk : rOK r) (he : tEd x) (i v : Int32) : M0 Γ l yX8_setSetting (ws_ yX8_setSetting cX8_setSetting 3 (some .int)) (rl 3 0 0) 0 0 [.ref (G 61), .int i, .int v] w (fun r9 w9 => r9 = some (.int (tw_sset i v x).1) ∧ tW Γ G wB ((tw_sset i v x).2) w9) := by
  refine M0.of (lv := [some (.ref (G 61)), some (.int i), some (.int v)]) (by decide) (Nat.le_of_ble_eq_true rfl) 0 rfl rfl ?_
  intro X hX hR hl hG hnm
  subst hl; subst hG
  refine v_aload_n hX dX8_setSetting_0 rfl ?_
  refine v_iconst hX dX8_setSetting_1 li0 ?_
  refine tv_putI hX dX8_setSetting_2 hw 0 (by decide) rfl q1909 rfl (by decide +kernel) (fun w hw => ?_)
  refine v_iload_n hX dX8_setSetting_5 rfl ?_
  refine v_iconst hX dX8_setSetting_6 li0 ?_
  refine v_bipush hX dX8_setSetting_7 lb6 ?_
  refine v_callSr hX rfl dX8_setSetting_9 q2115 cs_X8_isIn (mX8_isIn _ _ _) rfl ⟨rfl, rfl⟩ ⟨Nat.le_of_ble_eq_true rfl, Nat.le_of_ble_eq_true rfl⟩ rfl (Nat.le_of_ble_eq_true rfl) ⟨Nat.le_of_ble_eq_true rfl, Nat.le_of_ble_eq_true rfl⟩ ?_
  refine v_ifb_eq (tgt := 30) hX dX8_setSetting_12 rfl (fun c_12 => ?_) (fun c_12 => ?_)
  · refine v_aload_n hX dX8_setSetting_30 rfl ?_
    refine v_iconst hX dX8_setSetting_31 li1 ?_
    refine tv_callV hX rfl dX8_setSetting_32 q2103 cf_X8_fails hw (mX8_fails hw _) rfl ⟨rfl, rfl⟩ ⟨Nat.le_of_ble_eq_true rfl, Nat.le_of_ble_eq_true rfl⟩ rfl (Nat.le_of_ble_eq_true rfl) ⟨Nat.le_of_ble_eq_true rfl, Nat.le_of_ble_eq_true rfl⟩ (fun w hw => ?_)
    exact v_iret hX dX8_setSetting_35 hR (Nat.le_of_ble_eq_true rfl) (Nat.le_of_ble_eq_true rfl) (⟨(by first | (rw [tw_sset, if_neg c_12]; done) | (rw [tw_sset, if_neg c_12]; rfl)), hw.to (by first | (rw [tw_sset, if_neg c_12]; done) | (rw [tw_sset, if_neg c_12]; rfl))⟩)
  · refine v_iload_n hX dX8_setSetting_15 rfl ?_
    refine v_iload_n hX dX8_setSetting_16 rfl ?_
    refine v_callSr hX rfl dX8_setSetting_17 q2219 cs_X8_least (mX8_least _) rfl ⟨rfl, rfl⟩ ⟨Nat.le_of_ble_eq_true rfl, Nat.le_of_ble_eq_true rfl⟩ rfl (Nat.le_of_ble_eq_true rfl) ⟨Nat.le_of_ble_eq_true rfl, Nat.le_of_ble_eq_true rfl⟩ ?_
    refine v_iload_n hX dX8_setSetting_20 rfl ?_
    refine v_callSr hX rfl dX8_setSetting_21 q2222 cs_X8_greatest (mX8_greatest _) rfl ⟨rfl, rfl⟩ ⟨Nat.le_of_ble_eq_true rfl, Nat.le_of_ble_eq_true rfl⟩ rfl (Nat.le_of_ble_eq_true rfl) ⟨Nat.le_of_ble_eq_true rfl, Nat.le_of_ble_eq_true rfl⟩ ?_
    refine v_callSr hX rfl dX8_setSetting_24 q2115 cs_X8_isIn (mX8_isIn _ _ _) rfl ⟨rfl, rfl⟩ ⟨Nat.le_of_ble_eq_true rfl, Nat.le_of_ble_eq_true rfl⟩ rfl (Nat.le_of_ble_eq_true rfl) ⟨Nat.le_of_ble_eq_true rfl, Nat.le_of_ble_eq_true rfl⟩ ?_
    refine v_ifb_ne (tgt := 36) hX dX8_setSetting_27 rfl (fun c_27 => ?_) (fun c_27 => ?_)
    · refine v_aload_n hX dX8_setSetting_36 rfl ?_
      refine v_iload_n hX dX8_setSetting_37 rfl ?_
      refine v_iload_n hX dX8_setSetting_38 rfl ?_
      refine tv_callV hX rfl dX8_setSetting_39 q2608 cf_X8_change hw (mX8_change hw hI.z he.z _ _ (vmono (isK (n := 6) (by decide) c_12) (by decide))) rfl ⟨rfl, rfl⟩ ⟨Nat.le_of_ble_eq_true rfl, Nat.le_of_ble_eq_true rfl⟩ rfl (Nat.le_of_ble_eq_true rfl) ⟨Nat.le_of_ble_eq_true rfl, Nat.le_of_ble_eq_true rfl⟩ (fun w hw => ?_)
      exact v_iret hX dX8_setSetting_42 hR (Nat.le_of_ble_eq_true rfl) (Nat.le_of_ble_eq_true rfl) (⟨(by first | (rw [tw_sset, if_pos c_12, if_pos c_27]; done) | (rw [tw_sset, if_pos c_12, if_pos c_27]; rfl)), hw.to (by first | (rw [tw_sset, if_pos c_12, if_pos c_27]; done) | (rw [tw_sset, if_pos c_12, if_pos c_27]; rfl))⟩)
    · refine v_aload_n hX dX8_setSetting_30 rfl ?_
      refine v_iconst hX dX8_setSetting_31 li1 ?_
      refine tv_callV hX rfl dX8_setSetting_32 q2103 cf_X8_fails hw (mX8_fails hw _) rfl ⟨rfl, rfl⟩ ⟨Nat.le_of_ble_eq_true rfl, Nat.le_of_ble_eq_true rfl⟩ rfl (Nat.le_of_ble_eq_true rfl) ⟨Nat.le_of_ble_eq_true rfl, Nat.le_of_ble_eq_true rfl⟩ (fun w hw => ?_)
      exact v_iret hX dX8_setSetting_35 hR (Nat.le_of_ble_eq_true rfl) (Nat.le_of_ble_eq_true rfl) (⟨(by first | (rw [tw_sset, if_pos c_12, if_neg c_27]; done) | (rw [tw_sset, if_pos c_12, if_neg c_27]; rfl)), hw.to (by first | (rw [tw_sset, if_pos c_12, if_neg c_27]; done) | (rw [tw_sset, if_pos c_12, if_neg c_27]; rfl))⟩)
theorem cf_X8_setPolicy : CF RX8 yX8_setPolicy cX8_setPolicy 2 (some .int) 1 := ⟨q2613, q2614, q150, q2615, by decide +kernel⟩
theorem mX8_setPolicy {Γ : Gm} {l : Launch} {G : Nat → Nat} {wB : Wd} {x : TS} {w : Wd} (hw : tW Γ G wB x w) {r : Nat → Int32} (hI : tIr r x) (hk : rOK r) (he : tEd x) (v : Int32) : M0 Γ l yX8_setPolicy (ws_ yX8_setPolicy cX8_setPolicy 2 (some .int)) (rl 3 0 0) 0 0 [.ref (G 61), .int v] w (fun r9 w9 => r9 = some (.int (tw_spol v x).1) ∧ tW Γ G wB ((tw_spol v x).2) w9) := by
  refine M0.of (lv := [some (.ref (G 61)), some (.int v)]) (by decide) (Nat.le_of_ble_eq_true rfl) 0 rfl rfl ?_
  intro X hX hR hl hG hnm
  subst hl; subst hG
  refine v_aload_n hX dX8_setPolicy_0 rfl ?_
  refine v_iconst hX dX8_setPolicy_1 li0 ?_
  refine tv_putI hX dX8_setPolicy_2 hw 0 (by decide) rfl q1909 rfl (by decide +kernel) (fun w hw => ?_)
  refine v_iload_n hX dX8_setPolicy_5 rfl ?_
  refine v_iconst hX dX8_setPolicy_6 li0 ?_
  refine v_iconst hX dX8_setPolicy_7 li2 ?_
  refine v_callSr hX rfl dX8_setPolicy_8 q2115 cs_X8_isIn (mX8_isIn _ _ _) rfl ⟨rfl, rfl⟩ ⟨Nat.le_of_ble_eq_true rfl, Nat.le_of_ble_eq_true rfl⟩ rfl (Nat.le_of_ble_eq_true rfl) ⟨Nat.le_of_ble_eq_true rfl, Nat.le_of_ble_eq_true rfl⟩ ?_
  refine v_ifb_eq (tgt := 24) hX dX8_setPolicy_11 rfl (fun c_11 => ?_) (fun c_11 => ?_)
  · refine v_aload_n hX dX8_setPolicy_24 rfl ?_
    refine v_iconst hX dX8_setPolicy_25 li1 ?_
    refine tv_callV hX rfl dX8_setPolicy_26 q2103 cf_X8_fails hw (mX8_fails hw _) rfl ⟨rfl, rfl⟩ ⟨Nat.le_of_ble_eq_true rfl, Nat.le_of_ble_eq_true rfl⟩ rfl (Nat.le_of_ble_eq_true rfl) ⟨Nat.le_of_ble_eq_true rfl, Nat.le_of_ble_eq_true rfl⟩ (fun w hw => ?_)
    exact v_iret hX dX8_setPolicy_29 hR (Nat.le_of_ble_eq_true rfl) (Nat.le_of_ble_eq_true rfl) (⟨(by first | (rw [tw_spol, if_neg c_11]; done) | (rw [tw_spol, if_neg c_11]; rfl)), hw.to (by first | (rw [tw_spol, if_neg c_11]; done) | (rw [tw_spol, if_neg c_11]; rfl))⟩)
  · refine v_aload_n hX dX8_setPolicy_14 rfl ?_
    refine v_bipush hX dX8_setPolicy_15 lb7 ?_
    refine v_iload_n hX dX8_setPolicy_17 rfl ?_
    refine tv_callV hX rfl dX8_setPolicy_18 q2608 cf_X8_change hw (mX8_change hw hI.z he.z _ _ (vin (by decide))) rfl ⟨rfl, rfl⟩ ⟨Nat.le_of_ble_eq_true rfl, Nat.le_of_ble_eq_true rfl⟩ rfl (Nat.le_of_ble_eq_true rfl) ⟨Nat.le_of_ble_eq_true rfl, Nat.le_of_ble_eq_true rfl⟩ (fun w hw => ?_)
    refine v_goto (tgt := 29) hX dX8_setPolicy_21 rfl ?_
    exact v_iret hX dX8_setPolicy_29 hR (Nat.le_of_ble_eq_true rfl) (Nat.le_of_ble_eq_true rfl) (⟨(by first | (rw [tw_spol, if_pos c_11]; done) | (rw [tw_spol, if_pos c_11]; rfl)), hw.to (by first | (rw [tw_spol, if_pos c_11]; done) | (rw [tw_spol, if_pos c_11]; rfl))⟩)
end
