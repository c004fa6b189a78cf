/-! the twin: the day, the rest -/
set_option maxRecDepth 100000
theorem ls200 : (Int16.ofInt (200)).toInt32 = 200 := by decide +kernel
theorem ls1440 : (Int16.ofInt (1440)).toInt32 = 1440 := by decide +kernel
def tw_gr1 (b : Int32) (x : TS) : TS := if tA x 32 b = 2 then tU x 33 b (tA x 33 b + tG x 4) else x
def tw_gr2 (b : Int32) (x : TS) : TS := if tA x 32 b = 3 then (fun x => tU x 41 b (tA x 41 b + 1)) (tU x 33 b (tA x 33 b + 1)) else x
def tw_gro1 (b : Nat) (x : TS) : TS := tw_gr2 (nI b) (tw_gr1 (nI b) x)
theorem tw_gr1_k (b : Int32) (y : TS) : tK (tw_gr1 b y) = tK y := by
  unfold tw_gr1; repeat' split
  all_goals simp (disch := decide) only [tK_u]
theorem tw_gr2_k (b : Int32) (y : TS) : tK (tw_gr2 b y) = tK y := by
  unfold tw_gr2; repeat' split
  all_goals simp (disch := decide) only [tK_u]
theorem tw_gr1_D (b : Int32) (y : TS) (h : tD y) : tD (tw_gr1 b y) := by
  unfold tw_gr1; split
  · exact h.u (by decide)
  · exact h
theorem tw_gr2_D (b : Int32) (y : TS) (h : tD y) : tD (tw_gr2 b y) := by
  unfold tw_gr2; split
  · exact (h.u (by decide)).u (by decide)
  · exact h
theorem tw_gro1_k (i : Nat) (y : TS) : tK (tw_gro1 i y) = tK y := (tw_gr2_k _ _).trans (tw_gr1_k _ _)
theorem tw_gro1_D (i : Nat) (y : TS) (h : tD y) : tD (tw_gro1 i y) := tw_gr2_D _ _ (tw_gr1_D _ _ h)
def tw_gro (x : TS) : TS := it tw_gro1 (pn x) x
theorem tw_gro_k (x : TS) : tK (tw_gro x) = tK x := it_keep tK tw_gro1_k _ _
theorem tw_gro_D (x : TS) (h : tD x) : tD (tw_gro x) := it_inv tD h _ (fun i y _ => tw_gro1_D i y) _ (Nat.le_refl _)
theorem cf_X8_grows : CF RX8 yX8_grows cX8_grows 2 none 0 := ⟨q2397, qs94, q150, q2398, by decide +kernel⟩
theorem mX8_grows {Γ : Gm} {l : Launch} {G : Nat → Nat} {wB : Wd} {x : TS} {w : Wd} (hw : tW Γ G wB x w) (hP : tP x) : M0 Γ l yX8_grows (ws_ yX8_grows cX8_grows 2 none) (rl 2 0 0) 0 0 [.ref (G 61)] w (fun r9 w9 => r9 = none ∧ tW Γ G wB (tw_gro x) w9) := by
  refine M0.of (lv := [some (.ref (G 61)), none]) (by decide) (Nat.le_of_ble_eq_true rfl) 1 rfl rfl ?_
  intro X hX hR hl hG hnm
  subst hl; subst hG
  refine v_iconst hX dX8_grows_0 li0 ?_
  refine v_istore_n (lv' := [_, _]) hX dX8_grows_1 (Nat.le_of_ble_eq_true rfl) rfl rfl ?_
  refine loop_up (pn x) (fun i => ∀ w, tW (xG X) G wB ((it (tw_gro1) (i) x)) w → V X w 0 0 2 [some (.ref (G 61)), some (.int (nI (i)))] []) ?_ ?_ 0 (Nat.zero_le _) w hw
  · intro w hw
    have hPc : tP (it (tw_gro1) (pn x) x) := hP.k (it_keep tK tw_gro1_k _ _)
    refine v_iload_n hX dX8_grows_2 rfl ?_
    refine v_aload_n hX dX8_grows_3 rfl ?_
    refine tv_callR hX rfl dX8_grows_4 q2225 cf_X8_many hw (mX8_many hw hPc) rfl ⟨rfl, rfl⟩ ⟨Nat.le_of_ble_eq_true rfl, Nat.le_of_ble_eq_true rfl⟩ rfl (Nat.le_of_ble_eq_true rfl) ⟨Nat.le_of_ble_eq_true rfl, Nat.le_of_ble_eq_true rfl⟩ ?_
    refine v_icmp_ge_t (tgt := 73) hX dX8_grows_7 rfl (ge_x ((tG_k (it_keep tK tw_gro1_k (pn x) (x)) 8).trans hP.2.1.2) rfl) ?_
    exact v_vret hX dX8_grows_73 hR (Nat.le_of_ble_eq_true rfl) (Nat.le_of_ble_eq_true rfl) (⟨rfl, hw⟩)
  · intro i hi ih w hw
    have ih : ∀ w, tW (xG X) G wB (((tw_gro1) i (it (tw_gro1) (i) x))) w → V X w 0 0 2 [some (.ref (G 61)), some (.int (nI (i + 1)))] [] := ih
    have hPy : tP (it (tw_gro1) i x) := hP.k (it_keep tK tw_gro1_k (i) (x))
    have hg : tG (it (tw_gro1) i x) 8 = nI (pn x) := ((tG_k (it_keep tK tw_gro1_k (i) (x)) 8).trans hP.2.1.2)
    have hny : pn (it (tw_gro1) i x) = pn x := pn_k (it_keep tK tw_gro1_k (i) (x))
    have hPc := hPy
    generalize (it (tw_gro1) (i) x) = y at hw ih hPy hg hny hPc
    refine v_iload_n hX dX8_grows_2 rfl ?_
    refine v_aload_n hX dX8_grows_3 rfl ?_
    refine tv_callR hX rfl dX8_grows_4 q2225 cf_X8_many hw (mX8_many hw hPc) rfl ⟨rfl, rfl⟩ ⟨Nat.le_of_ble_eq_true rfl, Nat.le_of_ble_eq_true rfl⟩ rfl (Nat.le_of_ble_eq_true rfl) ⟨Nat.le_of_ble_eq_true rfl, Nat.le_of_ble_eq_true rfl⟩ ?_
    refine v_icmp_ge_f (tgt := 73) hX dX8_grows_7 rfl (ge_s hg hi (Nat.le_trans hP.2.1.1 (by decide))) ?_
    refine v_aload_n hX dX8_grows_10 rfl ?_
    refine tv_getA hX dX8_grows_11 hw 32 (by decide) rfl q1941 ?_
    refine v_iload_n hX dX8_grows_14 rfl ?_
    refine tv_iald hX dX8_grows_15 hw (by decide) rfl rfl (vnI (Nat.lt_of_lt_of_le hi hP.2.1.1) (by decide)) ?_
    refine v_iconst hX dX8_grows_16 li2 ?_
    refine v_icmp_ne (tgt := 34) hX dX8_grows_17 rfl (fun c_17 => ?_) (fun c_17 => ?_)
    · refine v_aload_n hX dX8_grows_34 rfl ?_
      refine tv_getA hX dX8_grows_35 hw 32 (by decide) rfl q1941 ?_
      refine v_iload_n hX dX8_grows_38 rfl ?_
      refine tv_iald hX dX8_grows_39 hw (by decide) rfl rfl (vnI (Nat.lt_of_lt_of_le hi hP.2.1.1) (by decide)) ?_
      refine v_iconst hX dX8_grows_40 li3 ?_
      refine v_icmp_eq (tgt := 47) hX dX8_grows_41 rfl (fun c_41 => ?_) (fun c_41 => ?_)
      · refine v_aload_n hX dX8_grows_47 rfl ?_
        refine tv_getA hX dX8_grows_48 hw 33 (by decide) rfl q1942 ?_
        refine v_iload_n hX dX8_grows_51 rfl ?_
        refine v_dup2 hX dX8_grows_52 rfl rfl ?_
        refine tv_iald hX dX8_grows_53 hw (by decide) rfl rfl (vnI (Nat.lt_of_lt_of_le hi hP.2.1.1) (by decide)) ?_
        refine v_iconst hX dX8_grows_54 li1 ?_
        refine v_iadd hX dX8_grows_55 ?_
        refine tv_iast hX dX8_grows_56 hw (by decide) rfl rfl (vnI (Nat.lt_of_lt_of_le hi hP.2.1.1) (by decide)) (fun w hw => ?_)
        refine v_aload_n hX dX8_grows_57 rfl ?_
        refine tv_getA hX dX8_grows_58 hw 41 (by decide) rfl q1950 ?_
        refine v_iload_n hX dX8_grows_61 rfl ?_
        refine v_dup2 hX dX8_grows_62 rfl rfl ?_
        refine tv_iald hX dX8_grows_63 hw (by decide) rfl rfl (vnI (Nat.lt_of_lt_of_le hi hP.2.1.1) (by decide)) ?_
        refine v_iconst hX dX8_grows_64 li1 ?_
        refine v_iadd hX dX8_grows_65 ?_
        refine tv_iast hX dX8_grows_66 hw (by decide) rfl rfl (vnI (Nat.lt_of_lt_of_le hi hP.2.1.1) (by decide)) (fun w hw => ?_)
        refine v_iinc (lv' := [_, _]) hX dX8_grows_67 rfl li1 rfl rfl ?_
        refine v_goto (tgt := 2) hX dX8_grows_70 rfl ?_
        exact V.at rfl (by rw [nI_1]) rfl (ih w (hw.to (by first | (rw [tw_gro1, tw_gr1, tw_gr2, if_neg c_17, if_pos c_41]; done) | (rw [tw_gro1, tw_gr1, tw_gr2, if_neg c_17, if_pos c_41]; rfl))))
      · refine v_goto (tgt := 67) hX dX8_grows_44 rfl ?_
        refine v_iinc (lv' := [_, _]) hX dX8_grows_67 rfl li1 rfl rfl ?_
        refine v_goto (tgt := 2) hX dX8_grows_70 rfl ?_
        exact V.at rfl (by rw [nI_1]) rfl (ih w (hw.to (by first | (rw [tw_gro1, tw_gr1, tw_gr2, if_neg c_17, if_neg c_41]; done) | (rw [tw_gro1, tw_gr1, tw_gr2, if_neg c_17, if_neg c_41]; rfl))))
    · refine v_aload_n hX dX8_grows_20 rfl ?_
      refine tv_getA hX dX8_grows_21 hw 33 (by decide) rfl q1942 ?_
      refine v_iload_n hX dX8_grows_24 rfl ?_
      refine v_dup2 hX dX8_grows_25 rfl rfl ?_
      refine tv_iald hX dX8_grows_26 hw (by decide) rfl rfl (vnI (Nat.lt_of_lt_of_le hi hP.2.1.1) (by decide)) ?_
      refine v_aload_n hX dX8_grows_27 rfl ?_
      refine v_iconst hX dX8_grows_28 li4 ?_
      refine tv_callR hX rfl dX8_grows_29 q2229 cf_X8_get hw (mX8_get hw _ (gidx hPc (vin (by decide)))) rfl ⟨rfl, rfl⟩ ⟨Nat.le_of_ble_eq_true rfl, Nat.le_of_ble_eq_true rfl⟩ rfl (Nat.le_of_ble_eq_true rfl) ⟨Nat.le_of_ble_eq_true rfl, Nat.le_of_ble_eq_true rfl⟩ ?_
      refine v_iadd hX dX8_grows_32 ?_
      refine tv_iast hX dX8_grows_33 hw (by decide) rfl rfl (vnI (Nat.lt_of_lt_of_le hi hP.2.1.1) (by decide)) (fun w hw => ?_)
      refine v_aload_n hX dX8_grows_34 rfl ?_
      refine tv_getA hX dX8_grows_35 hw 32 (by decide) rfl q1941 ?_
      refine v_iload_n hX dX8_grows_38 rfl ?_
      refine tv_iald hX dX8_grows_39 hw (by decide) rfl rfl (vnI (Nat.lt_of_lt_of_le hi hP.2.1.1) (by decide)) ?_
      refine v_iconst hX dX8_grows_40 li3 ?_
      refine v_icmp_eq (tgt := 47) hX dX8_grows_41 rfl (fun c_41 => ?_) (fun c_41 => ?_)
      · refine v_aload_n hX dX8_grows_47 rfl ?_
        refine tv_getA hX dX8_grows_48 hw 33 (by decide) rfl q1942 ?_
        refine v_iload_n hX dX8_grows_51 rfl ?_
        refine v_dup2 hX dX8_grows_52 rfl rfl ?_
        refine tv_iald hX dX8_grows_53 hw (by decide) rfl rfl (vnI (Nat.lt_of_lt_of_le hi hP.2.1.1) (by decide)) ?_
        refine v_iconst hX dX8_grows_54 li1 ?_
        refine v_iadd hX dX8_grows_55 ?_
        refine tv_iast hX dX8_grows_56 hw (by decide) rfl rfl (vnI (Nat.lt_of_lt_of_le hi hP.2.1.1) (by decide)) (fun w hw => ?_)
        refine v_aload_n hX dX8_grows_57 rfl ?_
        refine tv_getA hX dX8_grows_58 hw 41 (by decide) rfl q1950 ?_
        refine v_iload_n hX dX8_grows_61 rfl ?_
        refine v_dup2 hX dX8_grows_62 rfl rfl ?_
        refine tv_iald hX dX8_grows_63 hw (by decide) rfl rfl (vnI (Nat.lt_of_lt_of_le hi hP.2.1.1) (by decide)) ?_
        refine v_iconst hX dX8_grows_64 li1 ?_
        refine v_iadd hX dX8_grows_65 ?_
        refine tv_iast hX dX8_grows_66 hw (by decide) rfl rfl (vnI (Nat.lt_of_lt_of_le hi hP.2.1.1) (by decide)) (fun w hw => ?_)
        refine v_iinc (lv' := [_, _]) hX dX8_grows_67 rfl li1 rfl rfl ?_
        refine v_goto (tgt := 2) hX dX8_grows_70 rfl ?_
        exact V.at rfl (by rw [nI_1]) rfl (ih w (hw.to (by first | (rw [tw_gro1, tw_gr1, tw_gr2, if_pos c_17, if_pos c_41]; done) | (rw [tw_gro1, tw_gr1, tw_gr2, if_pos c_17, if_pos c_41]; rfl))))
      · refine v_goto (tgt := 67) hX dX8_grows_44 rfl ?_
        refine v_iinc (lv' := [_, _]) hX dX8_grows_67 rfl li1 rfl rfl ?_
        refine v_goto (tgt := 2) hX dX8_grows_70 rfl ?_
        exact V.at rfl (by rw [nI_1]) rfl (ih w (hw.to (by first | (rw [tw_gro1, tw_gr1, tw_gr2, if_pos c_17, if_neg c_41]; done) | (rw [tw_gro1, tw_gr1, tw_gr2, if_pos c_17, if_neg c_41]; rfl))))
def tw_he5 (d s b : Int32) (x : TS) : TS := (fun x => sI x 53 (x.1 53 + b)) (tU x 50 d (tA x 50 d + s))
def tw_he4 (d due b : Int32) (x : TS) : TS := if due ≤ tA x 50 d then tw_he5 d (-b) b x else tw_he5 d b b x
def tw_he3 (d due : Int32) (x : TS) : TS := if tw_apart due (tA x 50 d) ≤ tG x 5 then tw_he4 d due (tw_apart due (tA x 50 d)) x else tw_he4 d due (tG x 5) x
def tw_he2 (d : Int32) (x : TS) : TS := if tA x 47 d = -1 then x else tw_he3 d (tA x 11 (tB x (tA x 47 d) 0)) x
def tw_he1 (d : Int32) (x : TS) : TS := if tA x 48 d = -1 then x else tU x 51 d (tA x 51 d + 1)
def tw_hea1 (d : Nat) (x : TS) : TS := tw_he2 (nI d) (tw_he1 (nI d) x)
theorem tw_he1_k (b : Int32) (y : TS) : tK (tw_he1 b y) = tK y := by
  unfold tw_he1; repeat' split
  all_goals simp (disch := decide) only [tK_u]
theorem tw_he2_k (b : Int32) (y : TS) : tK (tw_he2 b y) = tK y := by
  unfold tw_he2 tw_he3 tw_he4 tw_he5; repeat' split
  all_goals simp (disch := decide) only [tK_u, tK_sI]
theorem tw_he1_D (b : Int32) (y : TS) (h : tD y) : tD (tw_he1 b y) := by
  unfold tw_he1; split
  · exact h
  · exact h.u (by decide)
theorem tw_he2_D (b : Int32) (y : TS) (h : tD y) : tD (tw_he2 b y) := by
  unfold tw_he2 tw_he3 tw_he4 tw_he5; repeat' split
  all_goals first | exact h | exact (h.u (by decide)).si (by decide)
theorem tw_hea1_k (i : Nat) (y : TS) : tK (tw_hea1 i y) = tK y := (tw_he2_k _ _).trans (tw_he1_k _ _)
theorem tw_hea1_D (i : Nat) (y : TS) (h : tD y) : tD (tw_hea1 i y) := tw_he2_D _ _ (tw_he1_D _ _ h)
def tw_hea (x : TS) : TS := it tw_hea1 (pd x) x
theorem tw_hea_k (x : TS) : tK (tw_hea x) = tK x := it_keep tK tw_hea1_k _ _
theorem tw_hea_D (x : TS) (h : tD x) : tD (tw_hea x) := it_inv tD h _ (fun i y _ => tw_hea1_D i y) _ (Nat.le_refl _)
theorem cf_X8_heats : CF RX8 yX8_heats cX8_heats 4 none 0 := ⟨q2401, qs95, q150, q2402, by decide +kernel⟩
theorem mX8_heats {Γ : Gm} {l : Launch} {G : Nat → Nat} {wB : Wd} {x : TS} {w : Wd} (hw : tW Γ G wB x w) (hP : tP x) (hD : tD x) : M0 Γ l yX8_heats (ws_ yX8_heats cX8_heats 4 none) (rl 2 0 0) 0 0 [.ref (G 61)] w (fun r9 w9 => r9 = none ∧ tW Γ G wB (tw_hea x) w9) := by
  refine M0.of (lv := [some (.ref (G 61)), none, none, none]) (by decide) (Nat.le_of_ble_eq_true rfl) 3 rfl rfl ?_
  intro X hX hR hl hG hnm
  subst hl; subst hG
  refine v_iconst hX dX8_heats_0 li0 ?_
  refine v_istore_n (lv' := [_, _, _, _]) hX dX8_heats_1 (Nat.le_of_ble_eq_true rfl) rfl rfl ?_
  refine V.no (lv' := [_, _, _, _]) 2 rfl ?_
  refine V.no (lv' := [_, _, _, _]) 3 rfl ?_
  refine loop_up (pd x) (fun i => ∀ w, tW (xG X) G wB ((it (tw_hea1) (i) x)) w → V X w 0 0 2 [some (.ref (G 61)), some (.int (nI (i))), none, none] []) ?_ ?_ 0 (Nat.zero_le _) w hw
  · intro w hw
    have hPc : tP (it (tw_hea1) (pd x) x) := hP.k (it_keep tK tw_hea1_k _ _)
    refine v_iload_n hX dX8_heats_2 rfl ?_
    refine v_aload_n hX dX8_heats_3 rfl ?_
    refine v_iconst hX dX8_heats_4 li1 ?_
    refine tv_callR hX rfl dX8_heats_5 q2229 cf_X8_get hw (mX8_get hw _ (gidx hPc (vin (by decide)))) rfl ⟨rfl, rfl⟩ ⟨Nat.le_of_ble_eq_true rfl, Nat.le_of_ble_eq_true rfl⟩ rfl (Nat.le_of_ble_eq_true rfl) ⟨Nat.le_of_ble_eq_true rfl, Nat.le_of_ble_eq_true rfl⟩ ?_
    refine v_icmp_ge_t (tgt := 127) hX dX8_heats_8 rfl (ge_x ((tG_k (it_keep tK tw_hea1_k (pd x) (x)) 1).trans hP.2.2.2.1.2.2) rfl) ?_
    exact v_vret hX dX8_heats_127 hR (Nat.le_of_ble_eq_true rfl) (Nat.le_of_ble_eq_true rfl) (⟨rfl, hw⟩)
  · intro i hi ih w hw
    have ih : ∀ w, tW (xG X) G wB (((tw_hea1) i (it (tw_hea1) (i) x))) w → V X w 0 0 2 [some (.ref (G 61)), some (.int (nI (i + 1))), none, none] [] := ih
    have hPy : tP (it (tw_hea1) i x) := hP.k (it_keep tK tw_hea1_k (i) (x))
    have hg : tG (it (tw_hea1) i x) 1 = nI (pd x) := ((tG_k (it_keep tK tw_hea1_k (i) (x)) 1).trans hP.2.2.2.1.2.2)
    have hny : pn (it (tw_hea1) i x) = pn x := pn_k (it_keep tK tw_hea1_k (i) (x))
    have hDy : tD (it (tw_hea1) i x) := it_inv tD hD (pd x) (fun i y _ => tw_hea1_D i y) i (Nat.le_of_lt hi)
    have hPc := hPy
    generalize (it (tw_hea1) (i) x) = y at hw ih hPy hg hny hDy hPc
    refine v_iload_n hX dX8_heats_2 rfl ?_
    refine v_aload_n hX dX8_heats_3 rfl ?_
    refine v_iconst hX dX8_heats_4 li1 ?_
    refine tv_callR hX rfl dX8_heats_5 q2229 cf_X8_get hw (mX8_get hw _ (gidx hPc (vin (by decide)))) rfl ⟨rfl, rfl⟩ ⟨Nat.le_of_ble_eq_true rfl, Nat.le_of_ble_eq_true rfl⟩ rfl (Nat.le_of_ble_eq_true rfl) ⟨Nat.le_of_ble_eq_true rfl, Nat.le_of_ble_eq_true rfl⟩ ?_
    refine v_icmp_ge_f (tgt := 127) hX dX8_heats_8 rfl (ge_s hg hi (Nat.le_trans hP.2.2.2.1.2.1 (by decide))) ?_
    refine v_aload_n hX dX8_heats_11 rfl ?_
    refine tv_getA hX dX8_heats_12 hw 48 (by decide) rfl q1957 ?_
    refine v_iload_n hX dX8_heats_15 rfl ?_
    refine tv_iald hX dX8_heats_16 hw (by decide) rfl rfl (vnI (Nat.lt_of_lt_of_le hi hP.2.2.2.1.2.1) (by decide)) ?_
    refine v_iconst hX dX8_heats_17 lim1 ?_
    refine v_icmp_eq (tgt := 31) hX dX8_heats_18 rfl (fun c_18 => ?_) (fun c_18 => ?_)
    · refine v_aload_n hX dX8_heats_31 rfl ?_
      refine tv_getA hX dX8_heats_32 hw 47 (by decide) rfl q1956 ?_
      refine v_iload_n hX dX8_heats_35 rfl ?_
      refine tv_iald hX dX8_heats_36 hw (by decide) rfl rfl (vnI (Nat.lt_of_lt_of_le hi hP.2.2.2.1.2.1) (by decide)) ?_
      refine v_iconst hX dX8_heats_37 lim1 ?_
      refine v_icmp_ne (tgt := 44) hX dX8_heats_38 rfl (fun c_38 => ?_) (fun c_38 => ?_)
      · refine v_aload_n hX dX8_heats_44 rfl ?_
        refine tv_getA hX dX8_heats_45 hw 11 (by decide) rfl q1920 ?_
        refine v_aload_n hX dX8_heats_48 rfl ?_
        refine v_aload_n hX dX8_heats_49 rfl ?_
        refine tv_getA hX dX8_heats_50 hw 47 (by decide) rfl q1956 ?_
        refine v_iload_n hX dX8_heats_53 rfl ?_
        refine tv_iald hX dX8_heats_54 hw (by decide) rfl rfl (vnI (Nat.lt_of_lt_of_le hi hP.2.2.2.1.2.1) (by decide)) ?_
        refine tv_callR hX rfl dX8_heats_55 q2325 cf_X8_productOfBatch hw (mX8_productOfBatch hw (hPy.k (by simp (disch := decide) only [tK_u])) _ (((by first | exact hDy | exact hDy.u (by decide) : tD _).2.1 i (lt_pd hi hP)).resolve_left c_38)) rfl ⟨rfl, rfl⟩ ⟨Nat.le_of_ble_eq_true rfl, Nat.le_of_ble_eq_true rfl⟩ rfl (Nat.le_of_ble_eq_true rfl) ⟨Nat.le_of_ble_eq_true rfl, Nat.le_of_ble_eq_true rfl⟩ ?_
        refine tv_iald hX dX8_heats_58 hw (by decide) rfl rfl (bprod (hPy.k (by simp (disch := decide) only [tK_u])) (((by first | exact hDy | exact hDy.u (by decide) : tD _).2.1 i (lt_pd hi hP)).resolve_left c_38)) ?_
        refine v_istore_n (lv' := [_, _, _, _]) hX dX8_heats_59 (Nat.le_of_ble_eq_true rfl) rfl rfl ?_
        refine v_iload_n hX dX8_heats_60 rfl ?_
        refine v_aload_n hX dX8_heats_61 rfl ?_
        refine tv_getA hX dX8_heats_62 hw 50 (by decide) rfl q1959 ?_
        refine v_iload_n hX dX8_heats_65 rfl ?_
        refine tv_iald hX dX8_heats_66 hw (by decide) rfl rfl (vnI (Nat.lt_of_lt_of_le hi hP.2.2.2.1.2.1) (by decide)) ?_
        refine v_callSr hX rfl dX8_heats_67 q2368 cs_X8_apart (mX8_apart _ _) rfl ⟨rfl, rfl⟩ ⟨Nat.le_of_ble_eq_true rfl, Nat.le_of_ble_eq_true rfl⟩ rfl (Nat.le_of_ble_eq_true rfl) ⟨Nat.le_of_ble_eq_true rfl, Nat.le_of_ble_eq_true rfl⟩ ?_
        refine v_istore_n (lv' := [_, _, _, _]) hX dX8_heats_70 (Nat.le_of_ble_eq_true rfl) rfl rfl ?_
        refine v_iload_n hX dX8_heats_71 rfl ?_
        refine v_aload_n hX dX8_heats_72 rfl ?_
        refine v_iconst hX dX8_heats_73 li5 ?_
        refine tv_callR hX rfl dX8_heats_74 q2229 cf_X8_get hw (mX8_get hw _ (gidx (hPy.k (by simp (disch := decide) only [tK_u])) (vin (by decide)))) rfl ⟨rfl, rfl⟩ ⟨Nat.le_of_ble_eq_true rfl, Nat.le_of_ble_eq_true rfl⟩ rfl (Nat.le_of_ble_eq_true rfl) ⟨Nat.le_of_ble_eq_true rfl, Nat.le_of_ble_eq_true rfl⟩ ?_
        refine v_icmp_le (tgt := 86) hX dX8_heats_77 rfl (fun c_77 => ?_) (fun c_77 => ?_)
        · refine v_aload_n hX dX8_heats_86 rfl ?_
          refine tv_getA hX dX8_heats_87 hw 50 (by decide) rfl q1959 ?_
          refine v_iload_n hX dX8_heats_90 rfl ?_
          refine v_dup2 hX dX8_heats_91 rfl rfl ?_
          refine tv_iald hX dX8_heats_92 hw (by decide) rfl rfl (vnI (Nat.lt_of_lt_of_le hi hP.2.2.2.1.2.1) (by decide)) ?_
          refine v_iload_n hX dX8_heats_93 rfl ?_
          refine v_aload_n hX dX8_heats_94 rfl ?_
          refine tv_getA hX dX8_heats_95 hw 50 (by decide) rfl q1959 ?_
          refine v_iload_n hX dX8_heats_98 rfl ?_
          refine tv_iald hX dX8_heats_99 hw (by decide) rfl rfl (vnI (Nat.lt_of_lt_of_le hi hP.2.2.2.1.2.1) (by decide)) ?_
          refine v_icmp_le (tgt := 107) hX dX8_heats_100 rfl (fun c_100 => ?_) (fun c_100 => ?_)
          · refine v_iload_n hX dX8_heats_107 rfl ?_
            refine v_ineg hX dX8_heats_108 ?_
            refine v_iadd hX dX8_heats_109 ?_
            refine tv_iast hX dX8_heats_110 hw (by decide) rfl rfl (vnI (Nat.lt_of_lt_of_le hi hP.2.2.2.1.2.1) (by decide)) (fun w hw => ?_)
            refine v_aload_n hX dX8_heats_111 rfl ?_
            refine v_dup hX dX8_heats_112 rfl ?_
            refine tv_getI hX dX8_heats_113 hw 53 (by decide) rfl q1962 ?_
            refine v_iload_n hX dX8_heats_116 rfl ?_
            refine v_iadd hX dX8_heats_117 ?_
            refine tv_putI hX dX8_heats_118 hw 53 (by decide) rfl q1962 rfl (by decide +kernel) (fun w hw => ?_)
            refine v_iinc (lv' := [_, _, _, _]) hX dX8_heats_121 rfl li1 rfl rfl ?_
            refine v_goto (tgt := 2) hX dX8_heats_124 rfl ?_
            refine V.no (lv' := [_, _, _, _]) 2 rfl ?_
            refine V.no (lv' := [_, _, _, _]) 3 rfl ?_
            exact V.at rfl (by rw [nI_1]) rfl (ih w (hw.to (by first | (rw [tw_hea1, tw_he1, if_pos c_18, tw_he2, if_neg c_38, tw_he3, if_pos c_77, tw_he4, if_pos c_100, tw_he5]; done) | (rw [tw_hea1, tw_he1, if_pos c_18, tw_he2, if_neg c_38, tw_he3, if_pos c_77, tw_he4, if_pos c_100, tw_he5]; rfl))))
          · refine v_iload_n hX dX8_heats_103 rfl ?_
            refine v_goto (tgt := 109) hX dX8_heats_104 rfl ?_
            refine v_iadd hX dX8_heats_109 ?_
            refine tv_iast hX dX8_heats_110 hw (by decide) rfl rfl (vnI (Nat.lt_of_lt_of_le hi hP.2.2.2.1.2.1) (by decide)) (fun w hw => ?_)
            refine v_aload_n hX dX8_heats_111 rfl ?_
            refine v_dup hX dX8_heats_112 rfl ?_
            refine tv_getI hX dX8_heats_113 hw 53 (by decide) rfl q1962 ?_
            refine v_iload_n hX dX8_heats_116 rfl ?_
            refine v_iadd hX dX8_heats_117 ?_
            refine tv_putI hX dX8_heats_118 hw 53 (by decide) rfl q1962 rfl (by decide +kernel) (fun w hw => ?_)
            refine v_iinc (lv' := [_, _, _, _]) hX dX8_heats_121 rfl li1 rfl rfl ?_
            refine v_goto (tgt := 2) hX dX8_heats_124 rfl ?_
            refine V.no (lv' := [_, _, _, _]) 2 rfl ?_
            refine V.no (lv' := [_, _, _, _]) 3 rfl ?_
            exact V.at rfl (by rw [nI_1]) rfl (ih w (hw.to (by first | (rw [tw_hea1, tw_he1, if_pos c_18, tw_he2, if_neg c_38, tw_he3, if_pos c_77, tw_he4, if_neg c_100, tw_he5]; done) | (rw [tw_hea1, tw_he1, if_pos c_18, tw_he2, if_neg c_38, tw_he3, if_pos c_77, tw_he4, if_neg c_100, tw_he5]; rfl))))
        · refine v_aload_n hX dX8_heats_80 rfl ?_
          refine v_iconst hX dX8_heats_81 li5 ?_
          refine tv_callR hX rfl dX8_heats_82 q2229 cf_X8_get hw (mX8_get hw _ (gidx (hPy.k (by simp (disch := decide) only [tK_u])) (vin (by decide)))) rfl ⟨rfl, rfl⟩ ⟨Nat.le_of_ble_eq_true rfl, Nat.le_of_ble_eq_true rfl⟩ rfl (Nat.le_of_ble_eq_true rfl) ⟨Nat.le_of_ble_eq_true rfl, Nat.le_of_ble_eq_true rfl⟩ ?_
          refine v_istore_n (lv' := [_, _, _, _]) hX dX8_heats_85 (Nat.le_of_ble_eq_true rfl) rfl rfl ?_
          refine v_aload_n hX dX8_heats_86 rfl ?_
          refine tv_getA hX dX8_heats_87 hw 50 (by decide) rfl q1959 ?_
          refine v_iload_n hX dX8_heats_90 rfl ?_
          refine v_dup2 hX dX8_heats_91 rfl rfl ?_
          refine tv_iald hX dX8_heats_92 hw (by decide) rfl rfl (vnI (Nat.lt_of_lt_of_le hi hP.2.2.2.1.2.1) (by decide)) ?_
          refine v_iload_n hX dX8_heats_93 rfl ?_
          refine v_aload_n hX dX8_heats_94 rfl ?_
          refine tv_getA hX dX8_heats_95 hw 50 (by decide) rfl q1959 ?_
          refine v_iload_n hX dX8_heats_98 rfl ?_
          refine tv_iald hX dX8_heats_99 hw (by decide) rfl rfl (vnI (Nat.lt_of_lt_of_le hi hP.2.2.2.1.2.1) (by decide)) ?_
          refine v_icmp_le (tgt := 107) hX dX8_heats_100 rfl (fun c_100 => ?_) (fun c_100 => ?_)
          · refine v_iload_n hX dX8_heats_107 rfl ?_
            refine v_ineg hX dX8_heats_108 ?_
            refine v_iadd hX dX8_heats_109 ?_
            refine tv_iast hX dX8_heats_110 hw (by decide) rfl rfl (vnI (Nat.lt_of_lt_of_le hi hP.2.2.2.1.2.1) (by decide)) (fun w hw => ?_)
            refine v_aload_n hX dX8_heats_111 rfl ?_
            refine v_dup hX dX8_heats_112 rfl ?_
            refine tv_getI hX dX8_heats_113 hw 53 (by decide) rfl q1962 ?_
            refine v_iload_n hX dX8_heats_116 rfl ?_
            refine v_iadd hX dX8_heats_117 ?_
            refine tv_putI hX dX8_heats_118 hw 53 (by decide) rfl q1962 rfl (by decide +kernel) (fun w hw => ?_)
            refine v_iinc (lv' := [_, _, _, _]) hX dX8_heats_121 rfl li1 rfl rfl ?_
            refine v_goto (tgt := 2) hX dX8_heats_124 rfl ?_
            refine V.no (lv' := [_, _, _, _]) 2 rfl ?_
            refine V.no (lv' := [_, _, _, _]) 3 rfl ?_
            exact V.at rfl (by rw [nI_1]) rfl (ih w (hw.to (by first | (rw [tw_hea1, tw_he1, if_pos c_18, tw_he2, if_neg c_38, tw_he3, if_neg c_77, tw_he4, if_pos c_100, tw_he5]; done) | (rw [tw_hea1, tw_he1, if_pos c_18, tw_he2, if_neg c_38, tw_he3, if_neg c_77, tw_he4, if_pos c_100, tw_he5]; rfl))))
          · refine v_iload_n hX dX8_heats_103 rfl ?_
            refine v_goto (tgt := 109) hX dX8_heats_104 rfl ?_
            refine v_iadd hX dX8_heats_109 ?_
            refine tv_iast hX dX8_heats_110 hw (by decide) rfl rfl (vnI (Nat.lt_of_lt_of_le hi hP.2.2.2.1.2.1) (by decide)) (fun w hw => ?_)
            refine v_aload_n hX dX8_heats_111 rfl ?_
            refine v_dup hX dX8_heats_112 rfl ?_
            refine tv_getI hX dX8_heats_113 hw 53 (by decide) rfl q1962 ?_
            refine v_iload_n hX dX8_heats_116 rfl ?_
            refine v_iadd hX dX8_heats_117 ?_
            refine tv_putI hX dX8_heats_118 hw 53 (by decide) rfl q1962 rfl (by decide +kernel) (fun w hw => ?_)
            refine v_iinc (lv' := [_, _, _, _]) hX dX8_heats_121 rfl li1 rfl rfl ?_
            refine v_goto (tgt := 2) hX dX8_heats_124 rfl ?_
            refine V.no (lv' := [_, _, _, _]) 2 rfl ?_
            refine V.no (lv' := [_, _, _, _]) 3 rfl ?_
            exact V.at rfl (by rw [nI_1]) rfl (ih w (hw.to (by first | (rw [tw_hea1, tw_he1, if_pos c_18, tw_he2, if_neg c_38, tw_he3, if_neg c_77, tw_he4, if_neg c_100, tw_he5]; done) | (rw [tw_hea1, tw_he1, if_pos c_18, tw_he2, if_neg c_38, tw_he3, if_neg c_77, tw_he4, if_neg c_100, tw_he5]; rfl))))
      · refine v_goto (tgt := 121) hX dX8_heats_41 rfl ?_
        refine v_iinc (lv' := [_, _, _, _]) hX dX8_heats_121 rfl li1 rfl rfl ?_
        refine v_goto (tgt := 2) hX dX8_heats_124 rfl ?_
        refine V.no (lv' := [_, _, _, _]) 2 rfl ?_
        refine V.no (lv' := [_, _, _, _]) 3 rfl ?_
        exact V.at rfl (by rw [nI_1]) rfl (ih w (hw.to (by first | (rw [tw_hea1, tw_he1, if_pos c_18, tw_he2, if_pos c_38]; done) | (rw [tw_hea1, tw_he1, if_pos c_18, tw_he2, if_pos c_38]; rfl))))
    · refine v_aload_n hX dX8_heats_21 rfl ?_
      refine tv_getA hX dX8_heats_22 hw 51 (by decide) rfl q1960 ?_
      refine v_iload_n hX dX8_heats_25 rfl ?_
      refine v_dup2 hX dX8_heats_26 rfl rfl ?_
      refine tv_iald hX dX8_heats_27 hw (by decide) rfl rfl (vnI (Nat.lt_of_lt_of_le hi hP.2.2.2.1.2.1) (by decide)) ?_
      refine v_iconst hX dX8_heats_28 li1 ?_
      refine v_iadd hX dX8_heats_29 ?_
      refine tv_iast hX dX8_heats_30 hw (by decide) rfl rfl (vnI (Nat.lt_of_lt_of_le hi hP.2.2.2.1.2.1) (by decide)) (fun w hw => ?_)
      refine v_aload_n hX dX8_heats_31 rfl ?_
      refine tv_getA hX dX8_heats_32 hw 47 (by decide) rfl q1956 ?_
      refine v_iload_n hX dX8_heats_35 rfl ?_
      refine tv_iald hX dX8_heats_36 hw (by decide) rfl rfl (vnI (Nat.lt_of_lt_of_le hi hP.2.2.2.1.2.1) (by decide)) ?_
      refine v_iconst hX dX8_heats_37 lim1 ?_
      refine v_icmp_ne (tgt := 44) hX dX8_heats_38 rfl (fun c_38 => ?_) (fun c_38 => ?_)
      · refine v_aload_n hX dX8_heats_44 rfl ?_
        refine tv_getA hX dX8_heats_45 hw 11 (by decide) rfl q1920 ?_
        refine v_aload_n hX dX8_heats_48 rfl ?_
        refine v_aload_n hX dX8_heats_49 rfl ?_
        refine tv_getA hX dX8_heats_50 hw 47 (by decide) rfl q1956 ?_
        refine v_iload_n hX dX8_heats_53 rfl ?_
        refine tv_iald hX dX8_heats_54 hw (by decide) rfl rfl (vnI (Nat.lt_of_lt_of_le hi hP.2.2.2.1.2.1) (by decide)) ?_
        refine tv_callR hX rfl dX8_heats_55 q2325 cf_X8_productOfBatch hw (mX8_productOfBatch hw (hPy.k (by simp (disch := decide) only [tK_u])) _ (((by first | exact hDy | exact hDy.u (by decide) : tD _).2.1 i (lt_pd hi hP)).resolve_left c_38)) rfl ⟨rfl, rfl⟩ ⟨Nat.le_of_ble_eq_true rfl, Nat.le_of_ble_eq_true rfl⟩ rfl (Nat.le_of_ble_eq_true rfl) ⟨Nat.le_of_ble_eq_true rfl, Nat.le_of_ble_eq_true rfl⟩ ?_
        refine tv_iald hX dX8_heats_58 hw (by decide) rfl rfl (bprod (hPy.k (by simp (disch := decide) only [tK_u])) (((by first | exact hDy | exact hDy.u (by decide) : tD _).2.1 i (lt_pd hi hP)).resolve_left c_38)) ?_
        refine v_istore_n (lv' := [_, _, _, _]) hX dX8_heats_59 (Nat.le_of_ble_eq_true rfl) rfl rfl ?_
        refine v_iload_n hX dX8_heats_60 rfl ?_
        refine v_aload_n hX dX8_heats_61 rfl ?_
        refine tv_getA hX dX8_heats_62 hw 50 (by decide) rfl q1959 ?_
        refine v_iload_n hX dX8_heats_65 rfl ?_
        refine tv_iald hX dX8_heats_66 hw (by decide) rfl rfl (vnI (Nat.lt_of_lt_of_le hi hP.2.2.2.1.2.1) (by decide)) ?_
        refine v_callSr hX rfl dX8_heats_67 q2368 cs_X8_apart (mX8_apart _ _) rfl ⟨rfl, rfl⟩ ⟨Nat.le_of_ble_eq_true rfl, Nat.le_of_ble_eq_true rfl⟩ rfl (Nat.le_of_ble_eq_true rfl) ⟨Nat.le_of_ble_eq_true rfl, Nat.le_of_ble_eq_true rfl⟩ ?_
        refine v_istore_n (lv' := [_, _, _, _]) hX dX8_heats_70 (Nat.le_of_ble_eq_true rfl) rfl rfl ?_
        refine v_iload_n hX dX8_heats_71 rfl ?_
        refine v_aload_n hX dX8_heats_72 rfl ?_
        refine v_iconst hX dX8_heats_73 li5 ?_
        refine tv_callR hX rfl dX8_heats_74 q2229 cf_X8_get hw (mX8_get hw _ (gidx (hPy.k (by simp (disch := decide) only [tK_u])) (vin (by decide)))) rfl ⟨rfl, rfl⟩ ⟨Nat.le_of_ble_eq_true rfl, Nat.le_of_ble_eq_true rfl⟩ rfl (Nat.le_of_ble_eq_true rfl) ⟨Nat.le_of_ble_eq_true rfl, Nat.le_of_ble_eq_true rfl⟩ ?_
        refine v_icmp_le (tgt := 86) hX dX8_heats_77 rfl (fun c_77 => ?_) (fun c_77 => ?_)
        · refine v_aload_n hX dX8_heats_86 rfl ?_
          refine tv_getA hX dX8_heats_87 hw 50 (by decide) rfl q1959 ?_
          refine v_iload_n hX dX8_heats_90 rfl ?_
          refine v_dup2 hX dX8_heats_91 rfl rfl ?_
          refine tv_iald hX dX8_heats_92 hw (by decide) rfl rfl (vnI (Nat.lt_of_lt_of_le hi hP.2.2.2.1.2.1) (by decide)) ?_
          refine v_iload_n hX dX8_heats_93 rfl ?_
          refine v_aload_n hX dX8_heats_94 rfl ?_
          refine tv_getA hX dX8_heats_95 hw 50 (by decide) rfl q1959 ?_
          refine v_iload_n hX dX8_heats_98 rfl ?_
          refine tv_iald hX dX8_heats_99 hw (by decide) rfl rfl (vnI (Nat.lt_of_lt_of_le hi hP.2.2.2.1.2.1) (by decide)) ?_
          refine v_icmp_le (tgt := 107) hX dX8_heats_100 rfl (fun c_100 => ?_) (fun c_100 => ?_)
          · refine v_iload_n hX dX8_heats_107 rfl ?_
            refine v_ineg hX dX8_heats_108 ?_
            refine v_iadd hX dX8_heats_109 ?_
            refine tv_iast hX dX8_heats_110 hw (by decide) rfl rfl (vnI (Nat.lt_of_lt_of_le hi hP.2.2.2.1.2.1) (by decide)) (fun w hw => ?_)
            refine v_aload_n hX dX8_heats_111 rfl ?_
            refine v_dup hX dX8_heats_112 rfl ?_
            refine tv_getI hX dX8_heats_113 hw 53 (by decide) rfl q1962 ?_
            refine v_iload_n hX dX8_heats_116 rfl ?_
            refine v_iadd hX dX8_heats_117 ?_
            refine tv_putI hX dX8_heats_118 hw 53 (by decide) rfl q1962 rfl (by decide +kernel) (fun w hw => ?_)
            refine v_iinc (lv' := [_, _, _, _]) hX dX8_heats_121 rfl li1 rfl rfl ?_
            refine v_goto (tgt := 2) hX dX8_heats_124 rfl ?_
            refine V.no (lv' := [_, _, _, _]) 2 rfl ?_
            refine V.no (lv' := [_, _, _, _]) 3 rfl ?_
            exact V.at rfl (by rw [nI_1]) rfl (ih w (hw.to (by first | (rw [tw_hea1, tw_he1, if_neg c_18, tw_he2, if_neg c_38, tw_he3, if_pos c_77, tw_he4, if_pos c_100, tw_he5]; done) | (rw [tw_hea1, tw_he1, if_neg c_18, tw_he2, if_neg c_38, tw_he3, if_pos c_77, tw_he4, if_pos c_100, tw_he5]; rfl))))
          · refine v_iload_n hX dX8_heats_103 rfl ?_
            refine v_goto (tgt := 109) hX dX8_heats_104 rfl ?_
            refine v_iadd hX dX8_heats_109 ?_
            refine tv_iast hX dX8_heats_110 hw (by decide) rfl rfl (vnI (Nat.lt_of_lt_of_le hi hP.2.2.2.1.2.1) (by decide)) (fun w hw => ?_)
            refine v_aload_n hX dX8_heats_111 rfl ?_
            refine v_dup hX dX8_heats_112 rfl ?_
            refine tv_getI hX dX8_heats_113 hw 53 (by decide) rfl q1962 ?_
            refine v_iload_n hX dX8_heats_116 rfl ?_
            refine v_iadd hX dX8_heats_117 ?_
            refine tv_putI hX dX8_heats_118 hw 53 (by decide) rfl q1962 rfl (by decide +kernel) (fun w hw => ?_)
            refine v_iinc (lv' := [_, _, _, _]) hX dX8_heats_121 rfl li1 rfl rfl ?_
            refine v_goto (tgt := 2) hX dX8_heats_124 rfl ?_
            refine V.no (lv' := [_, _, _, _]) 2 rfl ?_
            refine V.no (lv' := [_, _, _, _]) 3 rfl ?_
            exact V.at rfl (by rw [nI_1]) rfl (ih w (hw.to (by first | (rw [tw_hea1, tw_he1, if_neg c_18, tw_he2, if_neg c_38, tw_he3, if_pos c_77, tw_he4, if_neg c_100, tw_he5]; done) | (rw [tw_hea1, tw_he1, if_neg c_18, tw_he2, if_neg c_38, tw_he3, if_pos c_77, tw_he4, if_neg c_100, tw_he5]; rfl))))
        · refine v_aload_n hX dX8_heats_80 rfl ?_
          refine v_iconst hX dX8_heats_81 li5 ?_
          refine tv_callR hX rfl dX8_heats_82 q2229 cf_X8_get hw (mX8_get hw _ (gidx (hPy.k (by simp (disch := decide) only [tK_u])) (vin (by decide)))) rfl ⟨rfl, rfl⟩ ⟨Nat.le_of_ble_eq_true rfl, Nat.le_of_ble_eq_true rfl⟩ rfl (Nat.le_of_ble_eq_true rfl) ⟨Nat.le_of_ble_eq_true rfl, Nat.le_of_ble_eq_true rfl⟩ ?_
          refine v_istore_n (lv' := [_, _, _, _]) hX dX8_heats_85 (Nat.le_of_ble_eq_true rfl) rfl rfl ?_
          refine v_aload_n hX dX8_heats_86 rfl ?_
          refine tv_getA hX dX8_heats_87 hw 50 (by decide) rfl q1959 ?_
          refine v_iload_n hX dX8_heats_90 rfl ?_
          refine v_dup2 hX dX8_heats_91 rfl rfl ?_
          refine tv_iald hX dX8_heats_92 hw (by decide) rfl rfl (vnI (Nat.lt_of_lt_of_le hi hP.2.2.2.1.2.1) (by decide)) ?_
          refine v_iload_n hX dX8_heats_93 rfl ?_
          refine v_aload_n hX dX8_heats_94 rfl ?_
          refine tv_getA hX dX8_heats_95 hw 50 (by decide) rfl q1959 ?_
          refine v_iload_n hX dX8_heats_98 rfl ?_
          refine tv_iald hX dX8_heats_99 hw (by decide) rfl rfl (vnI (Nat.lt_of_lt_of_le hi hP.2.2.2.1.2.1) (by decide)) ?_
          refine v_icmp_le (tgt := 107) hX dX8_heats_100 rfl (fun c_100 => ?_) (fun c_100 => ?_)
          · refine v_iload_n hX dX8_heats_107 rfl ?_
            refine v_ineg hX dX8_heats_108 ?_
            refine v_iadd hX dX8_heats_109 ?_
            refine tv_iast hX dX8_heats_110 hw (by decide) rfl rfl (vnI (Nat.lt_of_lt_of_le hi hP.2.2.2.1.2.1) (by decide)) (fun w hw => ?_)
            refine v_aload_n hX dX8_heats_111 rfl ?_
            refine v_dup hX dX8_heats_112 rfl ?_
            refine tv_getI hX dX8_heats_113 hw 53 (by decide) rfl q1962 ?_
            refine v_iload_n hX dX8_heats_116 rfl ?_
            refine v_iadd hX dX8_heats_117 ?_
            refine tv_putI hX dX8_heats_118 hw 53 (by decide) rfl q1962 rfl (by decide +kernel) (fun w hw => ?_)
            refine v_iinc (lv' := [_, _, _, _]) hX dX8_heats_121 rfl li1 rfl rfl ?_
            refine v_goto (tgt := 2) hX dX8_heats_124 rfl ?_
            refine V.no (lv' := [_, _, _, _]) 2 rfl ?_
            refine V.no (lv' := [_, _, _, _]) 3 rfl ?_
            exact V.at rfl (by rw [nI_1]) rfl (ih w (hw.to (by first | (rw [tw_hea1, tw_he1, if_neg c_18, tw_he2, if_neg c_38, tw_he3, if_neg c_77, tw_he4, if_pos c_100, tw_he5]; done) | (rw [tw_hea1, tw_he1, if_neg c_18, tw_he2, if_neg c_38, tw_he3, if_neg c_77, tw_he4, if_pos c_100, tw_he5]; rfl))))
          · refine v_iload_n hX dX8_heats_103 rfl ?_
            refine v_goto (tgt := 109) hX dX8_heats_104 rfl ?_
            refine v_iadd hX dX8_heats_109 ?_
            refine tv_iast hX dX8_heats_110 hw (by decide) rfl rfl (vnI (Nat.lt_of_lt_of_le hi hP.2.2.2.1.2.1) (by decide)) (fun w hw => ?_)
            refine v_aload_n hX dX8_heats_111 rfl ?_
            refine v_dup hX dX8_heats_112 rfl ?_
            refine tv_getI hX dX8_heats_113 hw 53 (by decide) rfl q1962 ?_
            refine v_iload_n hX dX8_heats_116 rfl ?_
            refine v_iadd hX dX8_heats_117 ?_
            refine tv_putI hX dX8_heats_118 hw 53 (by decide) rfl q1962 rfl (by decide +kernel) (fun w hw => ?_)
            refine v_iinc (lv' := [_, _, _, _]) hX dX8_heats_121 rfl li1 rfl rfl ?_
            refine v_goto (tgt := 2) hX dX8_heats_124 rfl ?_
            refine V.no (lv' := [_, _, _, _]) 2 rfl ?_
            refine V.no (lv' := [_, _, _, _]) 3 rfl ?_
            exact V.at rfl (by rw [nI_1]) rfl (ih w (hw.to (by first | (rw [tw_hea1, tw_he1, if_neg c_18, tw_he2, if_neg c_38, tw_he3, if_neg c_77, tw_he4, if_neg c_100, tw_he5]; done) | (rw [tw_hea1, tw_he1, if_neg c_18, tw_he2, if_neg c_38, tw_he3, if_neg c_77, tw_he4, if_neg c_100, tw_he5]; rfl))))
      · refine v_goto (tgt := 121) hX dX8_heats_41 rfl ?_
        refine v_iinc (lv' := [_, _, _, _]) hX dX8_heats_121 rfl li1 rfl rfl ?_
        refine v_goto (tgt := 2) hX dX8_heats_124 rfl ?_
        refine V.no (lv' := [_, _, _, _]) 2 rfl ?_
        refine V.no (lv' := [_, _, _, _]) 3 rfl ?_
        exact V.at rfl (by rw [nI_1]) rfl (ih w (hw.to (by first | (rw [tw_hea1, tw_he1, if_neg c_18, tw_he2, if_pos c_38]; done) | (rw [tw_hea1, tw_he1, if_neg c_18, tw_he2, if_pos c_38]; rfl))))
def tw_nb1 (t : Int32) (d : Nat) (x : TS) : TS := tU x 54 (1440 * nI d + t) (tA x 50 (nI d))
def tw_nb (t : Int32) (x : TS) : TS := it (tw_nb1 t) 4 x
def tw_ne1 (t : Int32) (d : Nat) (x : TS) : TS := tU x 55 (1440 * nI d + t) (tA x 48 (nI d))
def tw_cnt (u : Int32) (x : TS) : Int32 := ct (fun b => tA x 32 (nI b) = u) (pn x)
def tw_ne (t : Int32) (x : TS) : TS := (fun x => tU x 57 t (tw_cnt 3 x)) ((fun x => tU x 56 t (tw_cnt 2 x)) (it (tw_ne1 t) 4 x))
theorem tw_nb1_k (t : Int32) (i : Nat) (y : TS) : tK (tw_nb1 t i y) = tK y := by unfold tw_nb1; exact tK_u (by decide)
theorem tw_ne1_k (t : Int32) (i : Nat) (y : TS) : tK (tw_ne1 t i y) = tK y := by unfold tw_ne1; exact tK_u (by decide)
theorem tw_nb1_D (t : Int32) (i : Nat) (y : TS) (h : tD y) : tD (tw_nb1 t i y) := by unfold tw_nb1; exact h.u (by decide)
theorem tw_ne1_D (t : Int32) (i : Nat) (y : TS) (h : tD y) : tD (tw_ne1 t i y) := by unfold tw_ne1; exact h.u (by decide)
theorem tw_nb_k (t : Int32) (x : TS) : tK (tw_nb t x) = tK x := it_keep tK (tw_nb1_k t) _ _
theorem tw_nb_D (t : Int32) (x : TS) (h : tD x) : tD (tw_nb t x) := it_inv tD h 4 (fun i y _ => tw_nb1_D t i y) _ (Nat.le_refl _)
theorem tw_ne_k (t : Int32) (x : TS) : tK (tw_ne t x) = tK x := by
  unfold tw_ne
  simp (disch := decide) only [tK_u]
  exact it_keep tK (tw_ne1_k t) _ _
theorem tw_ne_D (t : Int32) (x : TS) (h : tD x) : tD (tw_ne t x) := ((it_inv tD h 4 (fun i y _ => tw_ne1_D t i y) _ (Nat.le_refl _)).u (by decide)).u (by decide)
theorem nidx {t : Int32} {d : Nat} (ht : vp_in t 1440) (hd : d < 4) : vp_in (1440 * nI d + t) 5760 := by
  obtain ⟨j, hj, rfl⟩ := vp_in_of ht (by decide)
  rw [show (1440 : Int32) = nI 1440 from rfl, pk_mul, nI_add]
  exact vp_in_nI (by omega) (by decide)
theorem cf_X8_notesBegin : CF RX8 yX8_notesBegin cX8_notesBegin 3 none 1 := ⟨q2303, qs72, q150, q2304, by decide +kernel⟩
theorem mX8_notesBegin {Γ : Gm} {l : Launch} {G : Nat → Nat} {wB : Wd} {x : TS} {w : Wd} (hw : tW Γ G wB x w) (t : Int32) (ht : vp_in t 1440) : M0 Γ l yX8_notesBegin (ws_ yX8_notesBegin cX8_notesBegin 3 none) (rl 0 0 0) 0 0 [.ref (G 61), .int t] w (fun r9 w9 => r9 = none ∧ tW Γ G wB (tw_nb t x) w9) := by
  refine M0.of (lv := [some (.ref (G 61)), some (.int t), none]) (by decide) (Nat.le_of_ble_eq_true rfl) 1 rfl rfl ?_
  intro X hX hR hl hG hnm
  subst hl; subst hG
  refine v_iconst hX dX8_notesBegin_0 li0 ?_
  refine v_istore_n (lv' := [_, _, _]) hX dX8_notesBegin_1 (Nat.le_of_ble_eq_true rfl) rfl rfl ?_
  refine loop_up (4) (fun i => ∀ w, tW (xG X) G wB ((it (tw_nb1 t) (i) x)) w → V X w 0 0 2 [some (.ref (G 61)), some (.int t), some (.int (nI (i)))] []) ?_ ?_ 0 (Nat.zero_le _) w hw
  · intro w hw
    refine v_iload_n hX dX8_notesBegin_2 rfl ?_
    refine v_iconst hX dX8_notesBegin_3 li4 ?_
    refine v_icmp_ge_t (tgt := 31) hX dX8_notesBegin_4 rfl (by decide) ?_
    exact v_vret hX dX8_notesBegin_31 hR (Nat.le_of_ble_eq_true rfl) (Nat.le_of_ble_eq_true rfl) (⟨rfl, hw⟩)
  · intro i hi ih w hw
    have ih : ∀ w, tW (xG X) G wB (((tw_nb1 t) i (it (tw_nb1 t) (i) x))) w → V X w 0 0 2 [some (.ref (G 61)), some (.int t), some (.int (nI (i + 1)))] [] := ih
    generalize (it (tw_nb1 t) (i) x) = y at hw ih
    refine v_iload_n hX dX8_notesBegin_2 rfl ?_
    refine v_iconst hX dX8_notesBegin_3 li4 ?_
    refine v_icmp_ge_f (tgt := 31) hX dX8_notesBegin_4 rfl (ge_s (N := 4) rfl hi (by decide)) ?_
    refine v_aload_n hX dX8_notesBegin_7 rfl ?_
    refine tv_getA hX dX8_notesBegin_8 hw 54 (by decide) rfl q1963 ?_
    refine v_sipush hX dX8_notesBegin_11 ls1440 ?_
    refine v_iload_n hX dX8_notesBegin_14 rfl ?_
    refine v_imul hX dX8_notesBegin_15 ?_
    refine v_iload_n hX dX8_notesBegin_16 rfl ?_
    refine v_iadd hX dX8_notesBegin_17 ?_
    refine v_aload_n hX dX8_notesBegin_18 rfl ?_
    refine tv_getA hX dX8_notesBegin_19 hw 50 (by decide) rfl q1959 ?_
    refine v_iload_n hX dX8_notesBegin_22 rfl ?_
    refine tv_iald hX dX8_notesBegin_23 hw (by decide) rfl rfl (vnI hi (by decide)) ?_
    refine tv_iast hX dX8_notesBegin_24 hw (by decide) rfl rfl (nidx ht hi) (fun w hw => ?_)
    refine v_iinc (lv' := [_, _, _]) hX dX8_notesBegin_25 rfl li1 rfl rfl ?_
    refine v_goto (tgt := 2) hX dX8_notesBegin_28 rfl ?_
    exact V.at rfl (by rw [nI_1]) rfl (ih w (hw.to (by first | (rw [tw_nb1]; done) | (rw [tw_nb1]; rfl))))
theorem cf_X8_notesEnd : CF RX8 yX8_notesEnd cX8_notesEnd 3 none 1 := ⟨q2405, qs96, q150, q2406, by decide +kernel⟩
theorem mX8_notesEnd {Γ : Gm} {l : Launch} {G : Nat → Nat} {wB : Wd} {x : TS} {w : Wd} (hw : tW Γ G wB x w) (hP : tP x) (t : Int32) (ht : vp_in t 1440) : M0 Γ l yX8_notesEnd (ws_ yX8_notesEnd cX8_notesEnd 3 none) (rl 3 0 0) 0 0 [.ref (G 61), .int t] w (fun r9 w9 => r9 = none ∧ tW Γ G wB (tw_ne t x) w9) := by
  refine M0.of (lv := [some (.ref (G 61)), some (.int t), none]) (by decide) (Nat.le_of_ble_eq_true rfl) 1 rfl rfl ?_
  intro X hX hR hl hG hnm
  subst hl; subst hG
  refine v_iconst hX dX8_notesEnd_0 li0 ?_
  refine v_istore_n (lv' := [_, _, _]) hX dX8_notesEnd_1 (Nat.le_of_ble_eq_true rfl) rfl rfl ?_
  refine loop_up (4) (fun i => ∀ w, tW (xG X) G wB ((it (tw_ne1 t) (i) x)) w → V X w 0 0 2 [some (.ref (G 61)), some (.int t), some (.int (nI (i)))] []) ?_ ?_ 0 (Nat.zero_le _) w hw
  · intro w hw
    refine v_iload_n hX dX8_notesEnd_2 rfl ?_
    refine v_iconst hX dX8_notesEnd_3 li4 ?_
    refine v_icmp_ge_t (tgt := 31) hX dX8_notesEnd_4 rfl (by decide) ?_
    refine v_aload_n hX dX8_notesEnd_31 rfl ?_
    refine tv_getA hX dX8_notesEnd_32 hw 56 (by decide) rfl q1965 ?_
    refine v_iload_n hX dX8_notesEnd_35 rfl ?_
    refine v_aload_n hX dX8_notesEnd_36 rfl ?_
    refine v_iconst hX dX8_notesEnd_37 li2 ?_
    refine tv_callR hX rfl dX8_notesEnd_38 q2383 cf_X8_manyAt hw (mX8_manyAt hw (hP.k (it_keep tK (tw_ne1_k t) _ _)) _) rfl ⟨rfl, rfl⟩ ⟨Nat.le_of_ble_eq_true rfl, Nat.le_of_ble_eq_true rfl⟩ rfl (Nat.le_of_ble_eq_true rfl) ⟨Nat.le_of_ble_eq_true rfl, Nat.le_of_ble_eq_true rfl⟩ ?_
    refine tv_iast hX dX8_notesEnd_41 hw (by decide) rfl rfl (ht) (fun w hw => ?_)
    refine v_aload_n hX dX8_notesEnd_42 rfl ?_
    refine tv_getA hX dX8_notesEnd_43 hw 57 (by decide) rfl q1966 ?_
    refine v_iload_n hX dX8_notesEnd_46 rfl ?_
    refine v_aload_n hX dX8_notesEnd_47 rfl ?_
    refine v_iconst hX dX8_notesEnd_48 li3 ?_
    refine tv_callR hX rfl dX8_notesEnd_49 q2383 cf_X8_manyAt hw (mX8_manyAt hw (hP.k ((tK_u (by decide)).trans (it_keep tK (tw_ne1_k t) _ _))) _) rfl ⟨rfl, rfl⟩ ⟨Nat.le_of_ble_eq_true rfl, Nat.le_of_ble_eq_true rfl⟩ rfl (Nat.le_of_ble_eq_true rfl) ⟨Nat.le_of_ble_eq_true rfl, Nat.le_of_ble_eq_true rfl⟩ ?_
    refine tv_iast hX dX8_notesEnd_52 hw (by decide) rfl rfl (ht) (fun w hw => ?_)
    exact v_vret hX dX8_notesEnd_53 hR (Nat.le_of_ble_eq_true rfl) (Nat.le_of_ble_eq_true rfl) (⟨rfl, hw⟩)
  · intro i hi ih w hw
    have ih : ∀ w, tW (xG X) G wB (((tw_ne1 t) i (it (tw_ne1 t) (i) x))) w → V X w 0 0 2 [some (.ref (G 61)), some (.int t), some (.int (nI (i + 1)))] [] := ih
    generalize (it (tw_ne1 t) (i) x) = y at hw ih
    refine v_iload_n hX dX8_notesEnd_2 rfl ?_
    refine v_iconst hX dX8_notesEnd_3 li4 ?_
    refine v_icmp_ge_f (tgt := 31) hX dX8_notesEnd_4 rfl (ge_s (N := 4) rfl hi (by decide)) ?_
    refine v_aload_n hX dX8_notesEnd_7 rfl ?_
    refine tv_getA hX dX8_notesEnd_8 hw 55 (by decide) rfl q1964 ?_
    refine v_sipush hX dX8_notesEnd_11 ls1440 ?_
    refine v_iload_n hX dX8_notesEnd_14 rfl ?_
    refine v_imul hX dX8_notesEnd_15 ?_
    refine v_iload_n hX dX8_notesEnd_16 rfl ?_
    refine v_iadd hX dX8_notesEnd_17 ?_
    refine v_aload_n hX dX8_notesEnd_18 rfl ?_
    refine tv_getA hX dX8_notesEnd_19 hw 48 (by decide) rfl q1957 ?_
    refine v_iload_n hX dX8_notesEnd_22 rfl ?_
    refine tv_iald hX dX8_notesEnd_23 hw (by decide) rfl rfl (vnI hi (by decide)) ?_
    refine tv_iast hX dX8_notesEnd_24 hw (by decide) rfl rfl (nidx ht hi) (fun w hw => ?_)
    refine v_iinc (lv' := [_, _, _]) hX dX8_notesEnd_25 rfl li1 rfl rfl ?_
    refine v_goto (tgt := 2) hX dX8_notesEnd_28 rfl ?_
    exact V.at rfl (by rw [nI_1]) rfl (ih w (hw.to (by first | (rw [tw_ne1]; done) | (rw [tw_ne1]; rfl))))
def tw_min (t : Int32) (x : TS) : TS := tw_hea (tw_gro (tw_mix t (tw_she (tw_bak t (tw_res (tw_los t (tw_fin t x)))))))
theorem tw_min_k (t : Int32) (x : TS) : tK (tw_min t x) = tK x := (tw_hea_k _).trans ((tw_gro_k _).trans ((tw_mix_k _ _).trans ((tw_she_k _).trans ((tw_bak_k _ _).trans ((tw_res_k _).trans ((tw_los_k _ _).trans (tw_fin_k _ _)))))))
theorem tw_min_D (t : Int32) (x : TS) (hP : tP x) (hD : tD x) : tD (tw_min t x) := by
  have d1 := tw_fin_D t x hD
  have p1 := hP.k (tw_fin_k t x)
  have d2 := tw_los_D t _ d1
  have p2 := p1.k (tw_los_k t _)
  have d3 := tw_res_D _ p2 d2
  have p3 := p2.k (tw_res_k _)
  have d4 := tw_bak_D t _ p3 d3
  have p4 := p3.k (tw_bak_k t _)
  have d5 := tw_she_D _ d4
  have p5 := p4.k (tw_she_k _)
  have d6 := tw_mix_D t _ p5 d5
  exact tw_hea_D _ (tw_gro_D _ d6)
theorem cf_X8_playsMinute : CF RX8 yX8_playsMinute cX8_playsMinute 2 none 1 := ⟨q2307, qs73, q150, q2308, by decide +kernel⟩
theorem mX8_playsMinute {Γ : Gm} {l : Launch} {G : Nat → Nat} {wB : Wd} {x : TS} {w : Wd} (hw : tW Γ G wB x w) (hP : tP x) (hD : tD x) (t : Int32) : M0 Γ l yX8_playsMinute (ws_ yX8_playsMinute cX8_playsMinute 2 none) (rl 7 0 0) 0 0 [.ref (G 61), .int t] w (fun r9 w9 => r9 = none ∧ tW Γ G wB (tw_min t x) w9) := by
  refine M0.of (lv := [some (.ref (G 61)), some (.int t)]) (by decide) (Nat.le_of_ble_eq_true rfl) 0 rfl rfl ?_
  intro X hX hR hl hG hnm
  subst hl; subst hG
  have d1 := tw_fin_D t x hD
  have p1 := hP.k (tw_fin_k t x)
  have d2 := tw_los_D t _ d1
  have p2 := p1.k (tw_los_k t _)
  have d3 := tw_res_D _ p2 d2
  have p3 := p2.k (tw_res_k _)
  have d4 := tw_bak_D t _ p3 d3
  have p4 := p3.k (tw_bak_k t _)
  have d5 := tw_she_D _ d4
  have p5 := p4.k (tw_she_k _)
  have d6 := tw_mix_D t _ p5 d5
  have p6 := p5.k (tw_mix_k t _)
  have d7 := tw_gro_D _ d6
  have p7 := p6.k (tw_gro_k _)
  refine v_aload_n hX dX8_playsMinute_0 rfl ?_
  refine v_iload_n hX dX8_playsMinute_1 rfl ?_
  refine tv_call0 hX rfl dX8_playsMinute_2 q2309 cf_X8_finishes hw (mX8_finishes hw hP hD _) rfl ⟨rfl, rfl⟩ ⟨Nat.le_of_ble_eq_true rfl, Nat.le_of_ble_eq_true rfl⟩ rfl (Nat.le_of_ble_eq_true rfl) ⟨Nat.le_of_ble_eq_true rfl, Nat.le_of_ble_eq_true rfl⟩ (fun w hw => ?_)
  refine v_aload_n hX dX8_playsMinute_5 rfl ?_
  refine v_iload_n hX dX8_playsMinute_6 rfl ?_
  refine tv_call0 hX rfl dX8_playsMinute_7 q2313 cf_X8_loses hw (mX8_loses hw p1 _) rfl ⟨rfl, rfl⟩ ⟨Nat.le_of_ble_eq_true rfl, Nat.le_of_ble_eq_true rfl⟩ rfl (Nat.le_of_ble_eq_true rfl) ⟨Nat.le_of_ble_eq_true rfl, Nat.le_of_ble_eq_true rfl⟩ (fun w hw => ?_)
  refine v_aload_n hX dX8_playsMinute_10 rfl ?_
  refine tv_call0 hX rfl dX8_playsMinute_11 q2333 cf_X8_reserves hw (mX8_reserves hw p2) rfl ⟨rfl, rfl⟩ ⟨Nat.le_of_ble_eq_true rfl, Nat.le_of_ble_eq_true rfl⟩ rfl (Nat.le_of_ble_eq_true rfl) ⟨Nat.le_of_ble_eq_true rfl, Nat.le_of_ble_eq_true rfl⟩ (fun w hw => ?_)
  refine v_aload_n hX dX8_playsMinute_14 rfl ?_
  refine v_iload_n hX dX8_playsMinute_15 rfl ?_
  refine tv_call0 hX rfl dX8_playsMinute_16 q2375 cf_X8_beginsBaking hw (mX8_beginsBaking hw p3 d3 _) rfl ⟨rfl, rfl⟩ ⟨Nat.le_of_ble_eq_true rfl, Nat.le_of_ble_eq_true rfl⟩ rfl (Nat.le_of_ble_eq_true rfl) ⟨Nat.le_of_ble_eq_true rfl, Nat.le_of_ble_eq_true rfl⟩ (fun w hw => ?_)
  refine v_aload_n hX dX8_playsMinute_19 rfl ?_
  refine tv_call0 hX rfl dX8_playsMinute_20 q2379 cf_X8_shelves hw (mX8_shelves hw p4) rfl ⟨rfl, rfl⟩ ⟨Nat.le_of_ble_eq_true rfl, Nat.le_of_ble_eq_true rfl⟩ rfl (Nat.le_of_ble_eq_true rfl) ⟨Nat.le_of_ble_eq_true rfl, Nat.le_of_ble_eq_true rfl⟩ (fun w hw => ?_)
  refine v_aload_n hX dX8_playsMinute_23 rfl ?_
  refine v_iload_n hX dX8_playsMinute_24 rfl ?_
  refine tv_call0 hX rfl dX8_playsMinute_25 q2387 cf_X8_beginsMixing hw (mX8_beginsMixing hw p5 _) rfl ⟨rfl, rfl⟩ ⟨Nat.le_of_ble_eq_true rfl, Nat.le_of_ble_eq_true rfl⟩ rfl (Nat.le_of_ble_eq_true rfl) ⟨Nat.le_of_ble_eq_true rfl, Nat.le_of_ble_eq_true rfl⟩ (fun w hw => ?_)
  refine v_aload_n hX dX8_playsMinute_28 rfl ?_
  refine tv_call0 hX rfl dX8_playsMinute_29 q2395 cf_X8_grows hw (mX8_grows hw p6) rfl ⟨rfl, rfl⟩ ⟨Nat.le_of_ble_eq_true rfl, Nat.le_of_ble_eq_true rfl⟩ rfl (Nat.le_of_ble_eq_true rfl) ⟨Nat.le_of_ble_eq_true rfl, Nat.le_of_ble_eq_true rfl⟩ (fun w hw => ?_)
  refine v_aload_n hX dX8_playsMinute_32 rfl ?_
  refine tv_call0 hX rfl dX8_playsMinute_33 q2399 cf_X8_heats hw (mX8_heats hw p7 d7) rfl ⟨rfl, rfl⟩ ⟨Nat.le_of_ble_eq_true rfl, Nat.le_of_ble_eq_true rfl⟩ rfl (Nat.le_of_ble_eq_true rfl) ⟨Nat.le_of_ble_eq_true rfl, Nat.le_of_ble_eq_true rfl⟩ (fun w hw => ?_)
  exact v_vret hX dX8_playsMinute_36 hR (Nat.le_of_ble_eq_true rfl) (Nat.le_of_ble_eq_true rfl) (⟨rfl, hw⟩)
def tw_bg1 (b : Nat) (x : TS) : TS := tU (tU (tU (tU (tU (tU (tU (tU (tU (tU (tU x 32 (nI b) 0) 33 (nI b) 0) 34 (nI b) (-1)) 35 (nI b) (-1)) 36 (nI b) (-1)) 37 (nI b) (-1)) 38 (nI b) (-1)) 39 (nI b) (-1)) 40 (nI b) (-1)) 41 (nI b) 0) 42 (nI b) (-1)
def tw_bg2 (m : Nat) (x : TS) : TS := tU (tU (tU x 43 (nI m) (-1)) 45 (nI m) (-1)) 46 (nI m) 0
def tw_bg3 (d : Nat) (x : TS) : TS := tU (tU (tU (tU x 47 (nI d) (-1)) 48 (nI d) (-1)) 50 (nI d) 200) 51 (nI d) 0
def tw_beg (x : TS) : TS := sI (sI (it tw_bg3 4 (it tw_bg2 3 (it tw_bg1 20 x))) 52 0) 53 0
theorem tw_bg1_k (i : Nat) (y : TS) : tK (tw_bg1 i y) = tK y := by unfold tw_bg1; simp (disch := decide) only [tK_u]
theorem tw_bg2_k (i : Nat) (y : TS) : tK (tw_bg2 i y) = tK y := by unfold tw_bg2; simp (disch := decide) only [tK_u]
theorem tw_bg3_k (i : Nat) (y : TS) : tK (tw_bg3 i y) = tK y := by unfold tw_bg3; simp (disch := decide) only [tK_u]
theorem tw_beg_k (x : TS) : tK (tw_beg x) = tK x := by
  unfold tw_beg
  simp (disch := decide) only [tK_sI]
  exact (it_keep tK tw_bg3_k _ _).trans ((it_keep tK tw_bg2_k _ _).trans (it_keep tK tw_bg1_k _ _))
theorem tA_us {x : TS} {j : Nat} {i v k : Int32} : tA (tU x j i v) j k = if k.toNatClampNeg = i.toNatClampNeg then v else tA x j k := by
  show va_up x.2.2.1 j _ j _ = _
  rw [va_up_self]
  rfl
theorem tA_sI {x : TS} {j j2 : Nat} {v k : Int32} : tA (sI x j v) j2 k = tA x j2 k := rfl
theorem tw_beg_D (x : TS) : tD (tw_beg x) := by
  refine ⟨fun m hm => Or.inl ?_, fun d hd => Or.inl ?_, fun d hd => Or.inl ?_⟩
  · rcases (show m = 0 ∨ m = 1 ∨ m = 2 by omega) with rfl | rfl | rfl <;>
    · simp (disch := decide) only [tw_beg, tA_sI, it, tw_bg3, tw_bg2, tA_u, tA_us]
      simp [nI]
  · rcases (show d = 0 ∨ d = 1 ∨ d = 2 ∨ d = 3 by omega) with rfl | rfl | rfl | rfl <;>
    · simp (disch := decide) only [tw_beg, tA_sI, it, tw_bg3, tA_u, tA_us]
      simp [nI]
  · rcases (show d = 0 ∨ d = 1 ∨ d = 2 ∨ d = 3 by omega) with rfl | rfl | rfl | rfl <;>
    · simp (disch := decide) only [tw_beg, tA_sI, it, tw_bg3, tA_u, tA_us]
      simp [nI]
theorem cf_X8_beginDay : CF RX8 yX8_beginDay cX8_beginDay 2 none 0 := ⟨q2299, qs71, q150, q2300, by decide +kernel⟩
theorem mX8_beginDay {Γ : Gm} {l : Launch} {G : Nat → Nat} {wB : Wd} {x : TS} {w : Wd} (hw : tW Γ G wB x w)  : M0 Γ l yX8_beginDay (ws_ yX8_beginDay cX8_beginDay 2 none) (rl 0 0 0) 0 0 [.ref (G 61)] w (fun r9 w9 => r9 = none ∧ tW Γ G wB (tw_beg x) w9) := by
  refine M0.of (lv := [some (.ref (G 61)), none]) (by decide) (Nat.le_of_ble_eq_true rfl) 1 rfl rfl ?_
  intro X hX hR hl hG hnm
  subst hl; subst hG
  refine v_iconst hX dX8_beginDay_0 li0 ?_
  refine v_istore_n (lv' := [_, _]) hX dX8_beginDay_1 (Nat.le_of_ble_eq_true rfl) rfl rfl ?_
  refine loop_up (20) (fun i => ∀ w, tW (xG X) G wB ((it (tw_bg1) (i) x)) w → V X w 0 0 2 [some (.ref (G 61)), some (.int (nI (i)))] []) ?_ ?_ 0 (Nat.zero_le _) w hw
  · intro w hw
    obtain ⟨x1, hx1⟩ : ∃ z, z = it tw_bg1 20 x := ⟨_, rfl⟩
    have hw : tW (xG X) G wB x1 w := hw.to hx1
    refine v_iload_n hX dX8_beginDay_2 rfl ?_
    refine v_bipush hX dX8_beginDay_3 lb20 ?_
    refine v_icmp_ge_t (tgt := 91) hX dX8_beginDay_5 rfl (by decide) ?_
    refine v_iconst hX dX8_beginDay_91 li0 ?_
    refine v_istore_n (lv' := [_, _]) hX dX8_beginDay_92 (Nat.le_of_ble_eq_true rfl) rfl rfl ?_
    refine loop_up (3) (fun i => ∀ w, tW (xG X) G wB ((it (tw_bg2) (i) x1)) w → V X w 0 0 93 [some (.ref (G 61)), some (.int (nI (i)))] []) ?_ ?_ 0 (Nat.zero_le _) w hw
    · intro w hw
      obtain ⟨x2, hx2⟩ : ∃ z, z = it tw_bg2 3 x1 := ⟨_, rfl⟩
      have hw : tW (xG X) G wB x2 w := hw.to hx2
      refine v_iload_n hX dX8_beginDay_93 rfl ?_
      refine v_iconst hX dX8_beginDay_94 li3 ?_
      refine v_icmp_ge_t (tgt := 125) hX dX8_beginDay_95 rfl (by decide) ?_
      refine v_iconst hX dX8_beginDay_125 li0 ?_
      refine v_istore_n (lv' := [_, _]) hX dX8_beginDay_126 (Nat.le_of_ble_eq_true rfl) rfl rfl ?_
      refine loop_up (4) (fun i => ∀ w, tW (xG X) G wB ((it (tw_bg3) (i) x2)) w → V X w 0 0 127 [some (.ref (G 61)), some (.int (nI (i)))] []) ?_ ?_ 0 (Nat.zero_le _) w hw
      · intro w hw
        obtain ⟨x3, hx3⟩ : ∃ z, z = it tw_bg3 4 x2 := ⟨_, rfl⟩
        have hw : tW (xG X) G wB x3 w := hw.to hx3
        refine v_iload_n hX dX8_beginDay_127 rfl ?_
        refine v_iconst hX dX8_beginDay_128 li4 ?_
        refine v_icmp_ge_t (tgt := 168) hX dX8_beginDay_129 rfl (by decide) ?_
        refine v_aload_n hX dX8_beginDay_168 rfl ?_
        refine v_iconst hX dX8_beginDay_169 li0 ?_
        refine tv_putI hX dX8_beginDay_170 hw 52 (by decide) rfl q1961 rfl (by decide +kernel) (fun w hw => ?_)
        refine v_aload_n hX dX8_beginDay_173 rfl ?_
        refine v_iconst hX dX8_beginDay_174 li0 ?_
        refine tv_putI hX dX8_beginDay_175 hw 53 (by decide) rfl q1962 rfl (by decide +kernel) (fun w hw => ?_)
        exact v_vret hX dX8_beginDay_178 hR (Nat.le_of_ble_eq_true rfl) (Nat.le_of_ble_eq_true rfl) (⟨rfl, hw.to (by rw [hx3, hx2, hx1]; rfl)⟩)
      · intro i hi ih w hw
        have ih : ∀ w, tW (xG X) G wB (((tw_bg3) i (it (tw_bg3) (i) x2))) w → V X w 0 0 127 [some (.ref (G 61)), some (.int (nI (i + 1)))] [] := ih
        generalize (it (tw_bg3) (i) x2) = y at hw ih
        refine v_iload_n hX dX8_beginDay_127 rfl ?_
        refine v_iconst hX dX8_beginDay_128 li4 ?_
        refine v_icmp_ge_f (tgt := 168) hX dX8_beginDay_129 rfl (ge_s (N := 4) rfl hi (by decide)) ?_
        refine v_aload_n hX dX8_beginDay_132 rfl ?_
        refine tv_getA hX dX8_beginDay_133 hw 47 (by decide) rfl q1956 ?_
        refine v_iload_n hX dX8_beginDay_136 rfl ?_
        refine v_iconst hX dX8_beginDay_137 lim1 ?_
        refine tv_iast hX dX8_beginDay_138 hw (by decide) rfl rfl (vnI hi (by decide)) (fun w hw => ?_)
        refine v_aload_n hX dX8_beginDay_139 rfl ?_
        refine tv_getA hX dX8_beginDay_140 hw 48 (by decide) rfl q1957 ?_
        refine v_iload_n hX dX8_beginDay_143 rfl ?_
        refine v_iconst hX dX8_beginDay_144 lim1 ?_
        refine tv_iast hX dX8_beginDay_145 hw (by decide) rfl rfl (vnI hi (by decide)) (fun w hw => ?_)
        refine v_aload_n hX dX8_beginDay_146 rfl ?_
        refine tv_getA hX dX8_beginDay_147 hw 50 (by decide) rfl q1959 ?_
        refine v_iload_n hX dX8_beginDay_150 rfl ?_
        refine v_sipush hX dX8_beginDay_151 ls200 ?_
        refine tv_iast hX dX8_beginDay_154 hw (by decide) rfl rfl (vnI hi (by decide)) (fun w hw => ?_)
        refine v_aload_n hX dX8_beginDay_155 rfl ?_
        refine tv_getA hX dX8_beginDay_156 hw 51 (by decide) rfl q1960 ?_
        refine v_iload_n hX dX8_beginDay_159 rfl ?_
        refine v_iconst hX dX8_beginDay_160 li0 ?_
        refine tv_iast hX dX8_beginDay_161 hw (by decide) rfl rfl (vnI hi (by decide)) (fun w hw => ?_)
        refine v_iinc (lv' := [_, _]) hX dX8_beginDay_162 rfl li1 rfl rfl ?_
        refine v_goto (tgt := 127) hX dX8_beginDay_165 rfl ?_
        exact V.at rfl (by rw [nI_1]) rfl (ih w (hw.to (by first | (rw [tw_bg3]; done) | (rw [tw_bg3]; rfl))))
    · intro i hi ih w hw
      have ih : ∀ w, tW (xG X) G wB (((tw_bg2) i (it (tw_bg2) (i) x1))) w → V X w 0 0 93 [some (.ref (G 61)), some (.int (nI (i + 1)))] [] := ih
      generalize (it (tw_bg2) (i) x1) = y at hw ih
      refine v_iload_n hX dX8_beginDay_93 rfl ?_
      refine v_iconst hX dX8_beginDay_94 li3 ?_
      refine v_icmp_ge_f (tgt := 125) hX dX8_beginDay_95 rfl (ge_s (N := 3) rfl hi (by decide)) ?_
      refine v_aload_n hX dX8_beginDay_98 rfl ?_
      refine tv_getA hX dX8_beginDay_99 hw 43 (by decide) rfl q1952 ?_
      refine v_iload_n hX dX8_beginDay_102 rfl ?_
      refine v_iconst hX dX8_beginDay_103 lim1 ?_
      refine tv_iast hX dX8_beginDay_104 hw (by decide) rfl rfl (vnI hi (by decide)) (fun w hw => ?_)
      refine v_aload_n hX dX8_beginDay_105 rfl ?_
      refine tv_getA hX dX8_beginDay_106 hw 45 (by decide) rfl q1954 ?_
      refine v_iload_n hX dX8_beginDay_109 rfl ?_
      refine v_iconst hX dX8_beginDay_110 lim1 ?_
      refine tv_iast hX dX8_beginDay_111 hw (by decide) rfl rfl (vnI hi (by decide)) (fun w hw => ?_)
      refine v_aload_n hX dX8_beginDay_112 rfl ?_
      refine tv_getA hX dX8_beginDay_113 hw 46 (by decide) rfl q1955 ?_
      refine v_iload_n hX dX8_beginDay_116 rfl ?_
      refine v_iconst hX dX8_beginDay_117 li0 ?_
      refine tv_iast hX dX8_beginDay_118 hw (by decide) rfl rfl (vnI hi (by decide)) (fun w hw => ?_)
      refine v_iinc (lv' := [_, _]) hX dX8_beginDay_119 rfl li1 rfl rfl ?_
      refine v_goto (tgt := 93) hX dX8_beginDay_122 rfl ?_
      exact V.at rfl (by rw [nI_1]) rfl (ih w (hw.to (by first | (rw [tw_bg2]; done) | (rw [tw_bg2]; rfl))))
  · intro i hi ih w hw
    have ih : ∀ w, tW (xG X) G wB (((tw_bg1) i (it (tw_bg1) (i) x))) w → V X w 0 0 2 [some (.ref (G 61)), some (.int (nI (i + 1)))] [] := ih
    generalize (it (tw_bg1) (i) x) = y at hw ih
    refine v_iload_n hX dX8_beginDay_2 rfl ?_
    refine v_bipush hX dX8_beginDay_3 lb20 ?_
    refine v_icmp_ge_f (tgt := 91) hX dX8_beginDay_5 rfl (ge_s (N := 20) rfl hi (by decide)) ?_
    refine v_aload_n hX dX8_beginDay_8 rfl ?_
    refine tv_getA hX dX8_beginDay_9 hw 32 (by decide) rfl q1941 ?_
    refine v_iload_n hX dX8_beginDay_12 rfl ?_
    refine v_iconst hX dX8_beginDay_13 li0 ?_
    refine tv_iast hX dX8_beginDay_14 hw (by decide) rfl rfl (vnI hi (by decide)) (fun w hw => ?_)
    refine v_aload_n hX dX8_beginDay_15 rfl ?_
    refine tv_getA hX dX8_beginDay_16 hw 33 (by decide) rfl q1942 ?_
    refine v_iload_n hX dX8_beginDay_19 rfl ?_
    refine v_iconst hX dX8_beginDay_20 li0 ?_
    refine tv_iast hX dX8_beginDay_21 hw (by decide) rfl rfl (vnI hi (by decide)) (fun w hw => ?_)
    refine v_aload_n hX dX8_beginDay_22 rfl ?_
    refine tv_getA hX dX8_beginDay_23 hw 34 (by decide) rfl q1943 ?_
    refine v_iload_n hX dX8_beginDay_26 rfl ?_
    refine v_iconst hX dX8_beginDay_27 lim1 ?_
    refine tv_iast hX dX8_beginDay_28 hw (by decide) rfl rfl (vnI hi (by decide)) (fun w hw => ?_)
    refine v_aload_n hX dX8_beginDay_29 rfl ?_
    refine tv_getA hX dX8_beginDay_30 hw 35 (by decide) rfl q1944 ?_
    refine v_iload_n hX dX8_beginDay_33 rfl ?_
    refine v_iconst hX dX8_beginDay_34 lim1 ?_
    refine tv_iast hX dX8_beginDay_35 hw (by decide) rfl rfl (vnI hi (by decide)) (fun w hw => ?_)
    refine v_aload_n hX dX8_beginDay_36 rfl ?_
    refine tv_getA hX dX8_beginDay_37 hw 36 (by decide) rfl q1945 ?_
    refine v_iload_n hX dX8_beginDay_40 rfl ?_
    refine v_iconst hX dX8_beginDay_41 lim1 ?_
    refine tv_iast hX dX8_beginDay_42 hw (by decide) rfl rfl (vnI hi (by decide)) (fun w hw => ?_)
    refine v_aload_n hX dX8_beginDay_43 rfl ?_
    refine tv_getA hX dX8_beginDay_44 hw 37 (by decide) rfl q1946 ?_
    refine v_iload_n hX dX8_beginDay_47 rfl ?_
    refine v_iconst hX dX8_beginDay_48 lim1 ?_
    refine tv_iast hX dX8_beginDay_49 hw (by decide) rfl rfl (vnI hi (by decide)) (fun w hw => ?_)
    refine v_aload_n hX dX8_beginDay_50 rfl ?_
    refine tv_getA hX dX8_beginDay_51 hw 38 (by decide) rfl q1947 ?_
    refine v_iload_n hX dX8_beginDay_54 rfl ?_
    refine v_iconst hX dX8_beginDay_55 lim1 ?_
    refine tv_iast hX dX8_beginDay_56 hw (by decide) rfl rfl (vnI hi (by decide)) (fun w hw => ?_)
    refine v_aload_n hX dX8_beginDay_57 rfl ?_
    refine tv_getA hX dX8_beginDay_58 hw 39 (by decide) rfl q1948 ?_
    refine v_iload_n hX dX8_beginDay_61 rfl ?_
    refine v_iconst hX dX8_beginDay_62 lim1 ?_
    refine tv_iast hX dX8_beginDay_63 hw (by decide) rfl rfl (vnI hi (by decide)) (fun w hw => ?_)
    refine v_aload_n hX dX8_beginDay_64 rfl ?_
    refine tv_getA hX dX8_beginDay_65 hw 40 (by decide) rfl q1949 ?_
    refine v_iload_n hX dX8_beginDay_68 rfl ?_
    refine v_iconst hX dX8_beginDay_69 lim1 ?_
    refine tv_iast hX dX8_beginDay_70 hw (by decide) rfl rfl (vnI hi (by decide)) (fun w hw => ?_)
    refine v_aload_n hX dX8_beginDay_71 rfl ?_
    refine tv_getA hX dX8_beginDay_72 hw 41 (by decide) rfl q1950 ?_
    refine v_iload_n hX dX8_beginDay_75 rfl ?_
    refine v_iconst hX dX8_beginDay_76 li0 ?_
    refine tv_iast hX dX8_beginDay_77 hw (by decide) rfl rfl (vnI hi (by decide)) (fun w hw => ?_)
    refine v_aload_n hX dX8_beginDay_78 rfl ?_
    refine tv_getA hX dX8_beginDay_79 hw 42 (by decide) rfl q1951 ?_
    refine v_iload_n hX dX8_beginDay_82 rfl ?_
    refine v_iconst hX dX8_beginDay_83 lim1 ?_
    refine tv_iast hX dX8_beginDay_84 hw (by decide) rfl rfl (vnI hi (by decide)) (fun w hw => ?_)
    refine v_iinc (lv' := [_, _]) hX dX8_beginDay_85 rfl li1 rfl rfl ?_
    refine v_goto (tgt := 2) hX dX8_beginDay_88 rfl ?_
    exact V.at rfl (by rw [nI_1]) rfl (ih w (hw.to (by first | (rw [tw_bg1]; done) | (rw [tw_bg1]; rfl))))
def tw_day1 (t : Nat) (x : TS) : TS := tw_ne (nI t) (tw_min (nI t) (tw_nb (nI t) x))
theorem tw_day1_k (i : Nat) (y : TS) : tK (tw_day1 i y) = tK y := (tw_ne_k _ _).trans ((tw_min_k _ _).trans (tw_nb_k _ _))
theorem tw_day1_D (i : Nat) (y : TS) (hP : tP y) (h : tD y) : tD (tw_day1 i y) := tw_ne_D _ _ (tw_min_D _ _ (hP.k (tw_nb_k _ _)) (tw_nb_D _ _ h))
def tw_day (x : TS) : TS := it tw_day1 1440 (tw_beg x)
theorem tw_day_k (x : TS) : tK (tw_day x) = tK x := (it_keep tK tw_day1_k _ _).trans (tw_beg_k x)
theorem tw_day_i {x : TS} (hP : tP x) : ∀ n, n ≤ 1440 → tP (it tw_day1 n (tw_beg x)) ∧ tD (it tw_day1 n (tw_beg x)) := it_inv (fun y => tP y ∧ tD y) ⟨hP.k (tw_beg_k x), tw_beg_D x⟩ 1440 (fun i y _ q => ⟨q.1.k (tw_day1_k i y), tw_day1_D i y q.1 q.2⟩)
theorem cf_X8_plays : CF RX8 yX8_plays cX8_plays 2 none 0 := ⟨q2295, qs70, q150, q2296, by decide +kernel⟩
theorem mX8_plays {Γ : Gm} {l : Launch} {G : Nat → Nat} {wB : Wd} {x : TS} {w : Wd} (hw : tW Γ G wB x w) (hP : tP x) : M0 Γ l yX8_plays (ws_ yX8_plays cX8_plays 2 none) (rl 8 0 0) 0 0 [.ref (G 61)] w (fun r9 w9 => r9 = none ∧ tW Γ G wB (tw_day x) w9) := by
  refine M0.of (lv := [some (.ref (G 61)), none]) (by decide) (Nat.le_of_ble_eq_true rfl) 1 rfl rfl ?_
  intro X hX hR hl hG hnm
  subst hl; subst hG
  refine v_aload_n hX dX8_plays_0 rfl ?_
  refine tv_call0 hX rfl dX8_plays_1 q2297 cf_X8_beginDay hw (mX8_beginDay hw) rfl ⟨rfl, rfl⟩ ⟨Nat.le_of_ble_eq_true rfl, Nat.le_of_ble_eq_true rfl⟩ rfl (Nat.le_of_ble_eq_true rfl) ⟨Nat.le_of_ble_eq_true rfl, Nat.le_of_ble_eq_true rfl⟩ (fun w hw => ?_)
  refine v_iconst hX dX8_plays_4 li0 ?_
  refine v_istore_n (lv' := [_, _]) hX dX8_plays_5 (Nat.le_of_ble_eq_true rfl) rfl rfl ?_
  refine loop_up (1440) (fun i => ∀ w, tW (xG X) G wB ((it (tw_day1) (i) (tw_beg x))) w → V X w 0 0 6 [some (.ref (G 61)), some (.int (nI (i)))] []) ?_ ?_ 0 (Nat.zero_le _) w hw
  · intro w hw
    refine v_iload_n hX dX8_plays_6 rfl ?_
    refine v_sipush hX dX8_plays_7 ls1440 ?_
    refine v_icmp_ge_t (tgt := 34) hX dX8_plays_10 rfl (by decide) ?_
    exact v_vret hX dX8_plays_34 hR (Nat.le_of_ble_eq_true rfl) (Nat.le_of_ble_eq_true rfl) (⟨rfl, hw⟩)
  · intro i hi ih w hw
    have ih : ∀ w, tW (xG X) G wB (((tw_day1) i (it (tw_day1) (i) (tw_beg x)))) w → V X w 0 0 6 [some (.ref (G 61)), some (.int (nI (i + 1)))] [] := ih
    have ht : vp_in (nI i) 1440 := vnI hi (by decide)
    obtain ⟨hPy, hDy⟩ := tw_day_i hP i (Nat.le_of_lt hi)
    have hP1 := hPy.k (tw_nb_k (nI i) _)
    have hD1 := tw_nb_D (nI i) _ hDy
    have hP2 := hP1.k (tw_min_k (nI i) _)
    generalize (it (tw_day1) (i) (tw_beg x)) = y at hw ih hPy hDy hP1 hD1 hP2
    refine v_iload_n hX dX8_plays_6 rfl ?_
    refine v_sipush hX dX8_plays_7 ls1440 ?_
    refine v_icmp_ge_f (tgt := 34) hX dX8_plays_10 rfl (ge_s (N := 1440) rfl hi (by decide)) ?_
    refine v_aload_n hX dX8_plays_13 rfl ?_
    refine v_iload_n hX dX8_plays_14 rfl ?_
    refine tv_call0 hX rfl dX8_plays_15 q2301 cf_X8_notesBegin hw (mX8_notesBegin hw _ ht) rfl ⟨rfl, rfl⟩ ⟨Nat.le_of_ble_eq_true rfl, Nat.le_of_ble_eq_true rfl⟩ rfl (Nat.le_of_ble_eq_true rfl) ⟨Nat.le_of_ble_eq_true rfl, Nat.le_of_ble_eq_true rfl⟩ (fun w hw => ?_)
    refine v_aload_n hX dX8_plays_18 rfl ?_
    refine v_iload_n hX dX8_plays_19 rfl ?_
    refine tv_call0 hX rfl dX8_plays_20 q2305 cf_X8_playsMinute hw (mX8_playsMinute hw hP1 hD1 _) rfl ⟨rfl, rfl⟩ ⟨Nat.le_of_ble_eq_true rfl, Nat.le_of_ble_eq_true rfl⟩ rfl (Nat.le_of_ble_eq_true rfl) ⟨Nat.le_of_ble_eq_true rfl, Nat.le_of_ble_eq_true rfl⟩ (fun w hw => ?_)
    refine v_aload_n hX dX8_plays_23 rfl ?_
    refine v_iload_n hX dX8_plays_24 rfl ?_
    refine tv_call0 hX rfl dX8_plays_25 q2403 cf_X8_notesEnd hw (mX8_notesEnd hw hP2 _ ht) rfl ⟨rfl, rfl⟩ ⟨Nat.le_of_ble_eq_true rfl, Nat.le_of_ble_eq_true rfl⟩ rfl (Nat.le_of_ble_eq_true rfl) ⟨Nat.le_of_ble_eq_true rfl, Nat.le_of_ble_eq_true rfl⟩ (fun w hw => ?_)
    refine v_iinc (lv' := [_, _]) hX dX8_plays_28 rfl li1 rfl rfl ?_
    refine v_goto (tgt := 6) hX dX8_plays_31 rfl ?_
    exact V.at rfl (by rw [nI_1]) rfl (ih w (hw.to (by first | (rw [tw_day1]; done) | (rw [tw_day1]; rfl))))
def tw_unt1 (b : Int32) (t : Nat) (x : TS) : TS := if 5 ≤ tA x 32 b then x else tw_min (nI t) x
theorem tw_unt1_k (b : Int32) (i : Nat) (y : TS) : tK (tw_unt1 b i y) = tK y := by
  unfold tw_unt1; split
  · rfl
  · exact tw_min_k _ _
def tw_unt (b : Int32) (x : TS) : TS := it (tw_unt1 b) 1440 (tw_beg x)
theorem tw_unt_k (b : Int32) (x : TS) : tK (tw_unt b x) = tK x := (it_keep tK (tw_unt1_k b) _ _).trans (tw_beg_k x)
theorem tw_unt_i {x : TS} (hP : tP x) (b : Int32) : ∀ n, n ≤ 1440 → tP (it (tw_unt1 b) n (tw_beg x)) ∧ tD (it (tw_unt1 b) n (tw_beg x)) := it_inv (fun y => tP y ∧ tD y) ⟨hP.k (tw_beg_k x), tw_beg_D x⟩ 1440 (fun i y _ q => ⟨q.1.k (tw_unt1_k b i y), by
  unfold tw_unt1; split
  · exact q.2
  · exact tw_min_D _ _ q.1 q.2⟩)
theorem cf_X8_playsUntil : CF RX8 yX8_playsUntil cX8_playsUntil 3 none 1 := ⟨q2562, qs112, q150, q2563, by decide +kernel⟩
theorem mX8_playsUntil {Γ : Gm} {l : Launch} {G : Nat → Nat} {wB : Wd} {x : TS} {w : Wd} (hw : tW Γ G wB x w) (hP : tP x) (b : Int32) (hb : vp_in b 20) : M0 Γ l yX8_playsUntil (ws_ yX8_playsUntil cX8_playsUntil 3 none) (rl 8 0 0) 0 0 [.ref (G 61), .int b] w (fun r9 w9 => r9 = none ∧ tW Γ G wB (tw_unt b x) w9) := by
  refine M0.of (lv := [some (.ref (G 61)), some (.int b), none]) (by decide) (Nat.le_of_ble_eq_true rfl) 1 rfl rfl ?_
  intro X hX hR hl hG hnm
  subst hl; subst hG
  refine v_aload_n hX dX8_playsUntil_0 rfl ?_
  refine tv_call0 hX rfl dX8_playsUntil_1 q2297 cf_X8_beginDay hw (mX8_beginDay hw) rfl ⟨rfl, rfl⟩ ⟨Nat.le_of_ble_eq_true rfl, Nat.le_of_ble_eq_true rfl⟩ rfl (Nat.le_of_ble_eq_true rfl) ⟨Nat.le_of_ble_eq_true rfl, Nat.le_of_ble_eq_true rfl⟩ (fun w hw => ?_)
  refine v_iconst hX dX8_playsUntil_4 li0 ?_
  refine v_istore_n (lv' := [_, _, _]) hX dX8_playsUntil_5 (Nat.le_of_ble_eq_true rfl) rfl rfl ?_
  refine loop_up (1440) (fun i => ∀ w, tW (xG X) G wB ((it (tw_unt1 b) (i) (tw_beg x))) w → V X w 0 0 6 [some (.ref (G 61)), some (.int b), some (.int (nI (i)))] []) ?_ ?_ 0 (Nat.zero_le _) w hw
  · intro w hw
    refine v_iload_n hX dX8_playsUntil_6 rfl ?_
    refine v_sipush hX dX8_playsUntil_7 ls1440 ?_
    refine v_icmp_ge_t (tgt := 34) hX dX8_playsUntil_10 rfl (by decide) ?_
    exact v_vret hX dX8_playsUntil_34 hR (Nat.le_of_ble_eq_true rfl) (Nat.le_of_ble_eq_true rfl) (⟨rfl, hw⟩)
  · intro i hi ih w hw
    have ih : ∀ w, tW (xG X) G wB (((tw_unt1 b) i (it (tw_unt1 b) (i) (tw_beg x)))) w → V X w 0 0 6 [some (.ref (G 61)), some (.int b), some (.int (nI (i + 1)))] [] := ih
    obtain ⟨hPy, hDy⟩ := tw_unt_i hP b i (Nat.le_of_lt hi)
    have hst : 5 ≤ tA (it (tw_unt1 b) i (tw_beg x)) 32 b → it (tw_unt1 b) 1440 (tw_beg x) = it (tw_unt1 b) i (tw_beg x) := fun q => it_stuck (Nat.le_of_lt hi) (fun j => if_pos q)
    generalize (it (tw_unt1 b) (i) (tw_beg x)) = y at hw ih hPy hDy hst
    refine v_iload_n hX dX8_playsUntil_6 rfl ?_
    refine v_sipush hX dX8_playsUntil_7 ls1440 ?_
    refine v_icmp_ge_f (tgt := 34) hX dX8_playsUntil_10 rfl (ge_s (N := 1440) rfl hi (by decide)) ?_
    refine v_aload_n hX dX8_playsUntil_13 rfl ?_
    refine tv_getA hX dX8_playsUntil_14 hw 32 (by decide) rfl q1941 ?_
    refine v_iload_n hX dX8_playsUntil_17 rfl ?_
    refine tv_iald hX dX8_playsUntil_18 hw (by decide) rfl rfl (hb) ?_
    refine v_iconst hX dX8_playsUntil_19 li5 ?_
    refine v_icmp_ge (tgt := 34) hX dX8_playsUntil_20 rfl (fun c_20 => ?_) (fun c_20 => ?_)
    · exact v_vret hX dX8_playsUntil_34 hR (Nat.le_of_ble_eq_true rfl) (Nat.le_of_ble_eq_true rfl) (⟨rfl, hw.to (hst c_20)⟩)
    · refine v_aload_n hX dX8_playsUntil_23 rfl ?_
      refine v_iload_n hX dX8_playsUntil_24 rfl ?_
      refine tv_call0 hX rfl dX8_playsUntil_25 q2305 cf_X8_playsMinute hw (mX8_playsMinute hw hPy hDy _) rfl ⟨rfl, rfl⟩ ⟨Nat.le_of_ble_eq_true rfl, Nat.le_of_ble_eq_true rfl⟩ rfl (Nat.le_of_ble_eq_true rfl) ⟨Nat.le_of_ble_eq_true rfl, Nat.le_of_ble_eq_true rfl⟩ (fun w hw => ?_)
      refine v_iinc (lv' := [_, _, _]) hX dX8_playsUntil_28 rfl li1 rfl rfl ?_
      refine v_goto (tgt := 6) hX dX8_playsUntil_31 rfl ?_
      exact V.at rfl (by rw [nI_1]) rfl (ih w (hw.to (by first | (rw [tw_unt1, if_neg c_20]; done) | (rw [tw_unt1, if_neg c_20]; rfl))))
def tw_state (x : TS) (b : Int32) : Int32 := if tA x 32 b = 6 then 3 else if tA x 32 b = 5 then if tA x 14 (tB x b 2) < tA x 39 b + tG x 6 then 2 else 1 else 0
def tw_last1 (x : TS) (b : Nat) (v : Int32) : Int32 := if tA x 32 (nI b) = 5 then if tA x 39 (nI b) ≤ v then v else tA x 39 (nI b) else v
def tw_last (x : TS) : Int32 := it (tw_last1 x) (pn x) 0
def tw_num (x : TS) (s : Int32) : Int32 := ct (fun b => tw_state x (nI b) = s) (pn x)
theorem cf_X8_stateOf : CF RX8 yX8_stateOf cX8_stateOf 2 (some .int) 1 := ⟨q2409, qs97, q150, q2410, by decide +kernel⟩
theorem mX8_stateOf {Γ : Gm} {l : Launch} {G : Nat → Nat} {wB : Wd} {x : TS} {w : Wd} (hw : tW Γ G wB x w) (hP : tP x) (b : Int32) (hb : vp_in b (pn x)) : MRd Γ l yX8_stateOf (ws_ yX8_stateOf cX8_stateOf 2 (some .int)) (rl 1 0 0) [.ref (G 61), .int b] w (.int (tw_state x b)) := by
  refine M0.of (lv := [some (.ref (G 61)), some (.int b)]) (by decide) (Nat.le_of_ble_eq_true rfl) 0 rfl rfl ?_
  intro X hX hR hl hG hnm
  subst hl; subst hG
  refine v_aload_n hX dX8_stateOf_0 rfl ?_
  refine tv_getA hX dX8_stateOf_1 hw 32 (by decide) rfl q1941 ?_
  refine v_iload_n hX dX8_stateOf_4 rfl ?_
  refine tv_iald hX dX8_stateOf_5 hw (by decide) rfl rfl (b20 hP hb) ?_
  refine v_bipush hX dX8_stateOf_6 lb6 ?_
  refine v_icmp_ne (tgt := 13) hX dX8_stateOf_8 rfl (fun c_8 => ?_) (fun c_8 => ?_)
  · refine v_aload_n hX dX8_stateOf_13 rfl ?_
    refine tv_getA hX dX8_stateOf_14 hw 32 (by decide) rfl q1941 ?_
    refine v_iload_n hX dX8_stateOf_17 rfl ?_
    refine tv_iald hX dX8_stateOf_18 hw (by decide) rfl rfl (b20 hP hb) ?_
    refine v_iconst hX dX8_stateOf_19 li5 ?_
    refine v_icmp_eq (tgt := 25) hX dX8_stateOf_20 rfl (fun c_20 => ?_) (fun c_20 => ?_)
    · refine v_aload_n hX dX8_stateOf_25 rfl ?_
      refine tv_getA hX dX8_stateOf_26 hw 39 (by decide) rfl q1948 ?_
      refine v_iload_n hX dX8_stateOf_29 rfl ?_
      refine tv_iald hX dX8_stateOf_30 hw (by decide) rfl rfl (b20 hP hb) ?_
      refine v_aload_n hX dX8_stateOf_31 rfl ?_
      refine v_bipush hX dX8_stateOf_32 lb6 ?_
      refine tv_callR hX rfl dX8_stateOf_34 q2229 cf_X8_get hw (mX8_get hw _ (gidx hP (vin (by decide)))) rfl ⟨rfl, rfl⟩ ⟨Nat.le_of_ble_eq_true rfl, Nat.le_of_ble_eq_true rfl⟩ rfl (Nat.le_of_ble_eq_true rfl) ⟨Nat.le_of_ble_eq_true rfl, Nat.le_of_ble_eq_true rfl⟩ ?_
      refine v_iadd hX dX8_stateOf_37 ?_
      refine v_aload_n hX dX8_stateOf_38 rfl ?_
      refine tv_getA hX dX8_stateOf_39 hw 14 (by decide) rfl q1923 ?_
      refine v_aload_n hX dX8_stateOf_42 rfl ?_
      refine v_iload_n hX dX8_stateOf_43 rfl ?_
      refine v_iconst hX dX8_stateOf_44 li2 ?_
      refine tv_callR hX rfl dX8_stateOf_45 q2269 cf_X8_batch hw (mX8_batch hw _ _ (bidx hP hb (vin (by decide)))) rfl ⟨rfl, rfl⟩ ⟨Nat.le_of_ble_eq_true rfl, Nat.le_of_ble_eq_true rfl⟩ rfl (Nat.le_of_ble_eq_true rfl) ⟨Nat.le_of_ble_eq_true rfl, Nat.le_of_ble_eq_true rfl⟩ ?_
      refine tv_iald hX dX8_stateOf_48 hw (by decide) rfl rfl (bwave hP hb) ?_
      refine v_icmp_gt (tgt := 56) hX dX8_stateOf_49 rfl (fun c_49 => ?_) (fun c_49 => ?_)
      · refine v_iconst hX dX8_stateOf_56 li2 ?_
        exact v_iret hX dX8_stateOf_57 hR (Nat.le_of_ble_eq_true rfl) (Nat.le_of_ble_eq_true rfl) (⟨congrArg (fun z => some (Value.int z)) (Eq.symm (by first | (rw [tw_state, if_neg c_8, if_pos c_20, if_pos c_49]; done) | (rw [tw_state, if_neg c_8, if_pos c_20, if_pos c_49]; rfl))), rfl⟩)
      · refine v_iconst hX dX8_stateOf_52 li1 ?_
        refine v_goto (tgt := 57) hX dX8_stateOf_53 rfl ?_
        exact v_iret hX dX8_stateOf_57 hR (Nat.le_of_ble_eq_true rfl) (Nat.le_of_ble_eq_true rfl) (⟨congrArg (fun z => some (Value.int z)) (Eq.symm (by first | (rw [tw_state, if_neg c_8, if_pos c_20, if_neg c_49]; done) | (rw [tw_state, if_neg c_8, if_pos c_20, if_neg c_49]; rfl))), rfl⟩)
    · refine v_iconst hX dX8_stateOf_23 li0 ?_
      exact v_iret hX dX8_stateOf_24 hR (Nat.le_of_ble_eq_true rfl) (Nat.le_of_ble_eq_true rfl) (⟨congrArg (fun z => some (Value.int z)) (Eq.symm (by first | (rw [tw_state, if_neg c_8, if_neg c_20]; done) | (rw [tw_state, if_neg c_8, if_neg c_20]; rfl))), rfl⟩)
  · refine v_iconst hX dX8_stateOf_11 li3 ?_
    exact v_iret hX dX8_stateOf_12 hR (Nat.le_of_ble_eq_true rfl) (Nat.le_of_ble_eq_true rfl) (⟨congrArg (fun z => some (Value.int z)) (Eq.symm (by first | (rw [tw_state, if_pos c_8]; done) | (rw [tw_state, if_pos c_8]; rfl))), rfl⟩)
theorem cf_X8_countOf : CF RX8 yX8_countOf cX8_countOf 4 (some .int) 1 := ⟨q2458, qs99, q150, q2459, by decide +kernel⟩
theorem mX8_countOf {Γ : Gm} {l : Launch} {G : Nat → Nat} {wB : Wd} {x : TS} {w : Wd} (hw : tW Γ G wB x w) (hP : tP x) (u : Int32) : MRd Γ l yX8_countOf (ws_ yX8_countOf cX8_countOf 4 (some .int)) (rl 2 0 0) [.ref (G 61), .int u] w (.int (tw_num x u)) := by
  refine M0.of (lv := [some (.ref (G 61)), some (.int u), none, none]) (by decide) (Nat.le_of_ble_eq_true rfl) 2 rfl rfl ?_
  intro X hX hR hl hG hnm
  subst hl; subst hG
  refine v_iconst hX dX8_countOf_0 li0 ?_
  refine v_istore_n (lv' := [_, _, _, _]) hX dX8_countOf_1 (Nat.le_of_ble_eq_true rfl) rfl rfl ?_
  refine v_iconst hX dX8_countOf_2 li0 ?_
  refine v_istore_n (lv' := [_, _, _, _]) hX dX8_countOf_3 (Nat.le_of_ble_eq_true rfl) rfl rfl ?_
  refine loop_up (pn x) (fun i => V X w 0 0 4 [some (.ref (G 61)), some (.int u), some (.int (ct (fun b => tw_state x (nI b) = u) (i))), some (.int (nI (i)))] []) ?_ ?_ 0 (Nat.zero_le _)
  · skip
    refine v_iload_n hX dX8_countOf_4 rfl ?_
    refine v_aload_n hX dX8_countOf_5 rfl ?_
    refine tv_callR hX rfl dX8_countOf_6 q2225 cf_X8_many hw (mX8_many hw hP) rfl ⟨rfl, rfl⟩ ⟨Nat.le_of_ble_eq_true rfl, Nat.le_of_ble_eq_true rfl⟩ rfl (Nat.le_of_ble_eq_true rfl) ⟨Nat.le_of_ble_eq_true rfl, Nat.le_of_ble_eq_true rfl⟩ ?_
    refine v_icmp_ge_t (tgt := 30) hX dX8_countOf_9 rfl (ge_x hP.2.1.2 rfl) ?_
    refine v_iload_n hX dX8_countOf_30 rfl ?_
    exact v_iret hX dX8_countOf_31 hR (Nat.le_of_ble_eq_true rfl) (Nat.le_of_ble_eq_true rfl) (⟨rfl, rfl⟩)
  · intro i hi ih
    have ih : V X w 0 0 4 [some (.ref (G 61)), some (.int u), some (.int (ct (fun b => tw_state x (nI b) = u) (i + 1))), some (.int (nI (i + 1)))] [] := ih
    refine v_iload_n hX dX8_countOf_4 rfl ?_
    refine v_aload_n hX dX8_countOf_5 rfl ?_
    refine tv_callR hX rfl dX8_countOf_6 q2225 cf_X8_many hw (mX8_many hw hP) rfl ⟨rfl, rfl⟩ ⟨Nat.le_of_ble_eq_true rfl, Nat.le_of_ble_eq_true rfl⟩ rfl (Nat.le_of_ble_eq_true rfl) ⟨Nat.le_of_ble_eq_true rfl, Nat.le_of_ble_eq_true rfl⟩ ?_
    refine v_icmp_ge_f (tgt := 30) hX dX8_countOf_9 rfl (ge_s hP.2.1.2 hi (Nat.le_trans hP.2.1.1 (by decide))) ?_
    refine v_aload_n hX dX8_countOf_12 rfl ?_
    refine v_iload_n hX dX8_countOf_13 rfl ?_
    refine tv_callR hX rfl dX8_countOf_14 q2407 cf_X8_stateOf hw (mX8_stateOf hw hP _ (vnI hi (Nat.le_trans hP.2.1.1 (by decide)))) rfl ⟨rfl, rfl⟩ ⟨Nat.le_of_ble_eq_true rfl, Nat.le_of_ble_eq_true rfl⟩ rfl (Nat.le_of_ble_eq_true rfl) ⟨Nat.le_of_ble_eq_true rfl, Nat.le_of_ble_eq_true rfl⟩ ?_
    refine v_iload_n hX dX8_countOf_17 rfl ?_
    refine v_icmp_ne (tgt := 24) hX dX8_countOf_18 rfl (fun c_18 => ?_) (fun c_18 => ?_)
    · refine v_iinc (lv' := [_, _, _, _]) hX dX8_countOf_24 rfl li1 rfl rfl ?_
      refine v_goto (tgt := 4) hX dX8_countOf_27 rfl ?_
      exact V.at rfl (by rw [nI_1, ct, if_neg c_18]) rfl ih
    · refine v_iinc (lv' := [_, _, _, _]) hX dX8_countOf_21 rfl li1 rfl rfl ?_
      refine v_iinc (lv' := [_, _, _, _]) hX dX8_countOf_24 rfl li1 rfl rfl ?_
      refine v_goto (tgt := 4) hX dX8_countOf_27 rfl ?_
      exact V.at rfl (by rw [nI_1, ct, if_pos c_18]) rfl ih
theorem cf_X8_lastOf : CF RX8 yX8_lastOf cX8_lastOf 3 (some .int) 0 := ⟨q2466, qs100, q150, q2467, by decide +kernel⟩
theorem mX8_lastOf {Γ : Gm} {l : Launch} {G : Nat → Nat} {wB : Wd} {x : TS} {w : Wd} (hw : tW Γ G wB x w) (hP : tP x) : MRd Γ l yX8_lastOf (ws_ yX8_lastOf cX8_lastOf 3 (some .int)) (rl 2 0 0) [.ref (G 61)] w (.int (tw_last x)) := by
  refine M0.of (lv := [some (.ref (G 61)), none, none]) (by decide) (Nat.le_of_ble_eq_true rfl) 2 rfl rfl ?_
  intro X hX hR hl hG hnm
  subst hl; subst hG
  refine v_iconst hX dX8_lastOf_0 li0 ?_
  refine v_istore_n (lv' := [_, _, _]) hX dX8_lastOf_1 (Nat.le_of_ble_eq_true rfl) rfl rfl ?_
  refine v_iconst hX dX8_lastOf_2 li0 ?_
  refine v_istore_n (lv' := [_, _, _]) hX dX8_lastOf_3 (Nat.le_of_ble_eq_true rfl) rfl rfl ?_
  refine loop_up (pn x) (fun i => V X w 0 0 4 [some (.ref (G 61)), some (.int (it (tw_last1 x) (i) 0)), some (.int (nI (i)))] []) ?_ ?_ 0 (Nat.zero_le _)
  · skip
    refine v_iload_n hX dX8_lastOf_4 rfl ?_
    refine v_aload_n hX dX8_lastOf_5 rfl ?_
    refine tv_callR hX rfl dX8_lastOf_6 q2225 cf_X8_many hw (mX8_many hw hP) rfl ⟨rfl, rfl⟩ ⟨Nat.le_of_ble_eq_true rfl, Nat.le_of_ble_eq_true rfl⟩ rfl (Nat.le_of_ble_eq_true rfl) ⟨Nat.le_of_ble_eq_true rfl, Nat.le_of_ble_eq_true rfl⟩ ?_
    refine v_icmp_ge_t (tgt := 45) hX dX8_lastOf_9 rfl (ge_x hP.2.1.2 rfl) ?_
    refine v_iload_n hX dX8_lastOf_45 rfl ?_
    exact v_iret hX dX8_lastOf_46 hR (Nat.le_of_ble_eq_true rfl) (Nat.le_of_ble_eq_true rfl) (⟨rfl, rfl⟩)
  · intro i hi ih
    have ih : V X w 0 0 4 [some (.ref (G 61)), some (.int (it (tw_last1 x) (i + 1) 0)), some (.int (nI (i + 1)))] [] := ih
    have ih : V X w 0 0 4 [some (.ref (G 61)), some (.int (tw_last1 x i (it (tw_last1 x) i 0))), some (.int (nI (i + 1)))] [] := ih
    generalize it (tw_last1 x) i 0 = last at ih
    refine v_iload_n hX dX8_lastOf_4 rfl ?_
    refine v_aload_n hX dX8_lastOf_5 rfl ?_
    refine tv_callR hX rfl dX8_lastOf_6 q2225 cf_X8_many hw (mX8_many hw hP) rfl ⟨rfl, rfl⟩ ⟨Nat.le_of_ble_eq_true rfl, Nat.le_of_ble_eq_true rfl⟩ rfl (Nat.le_of_ble_eq_true rfl) ⟨Nat.le_of_ble_eq_true rfl, Nat.le_of_ble_eq_true rfl⟩ ?_
    refine v_icmp_ge_f (tgt := 45) hX dX8_lastOf_9 rfl (ge_s hP.2.1.2 hi (Nat.le_trans hP.2.1.1 (by decide))) ?_
    refine v_aload_n hX dX8_lastOf_12 rfl ?_
    refine tv_getA hX dX8_lastOf_13 hw 32 (by decide) rfl q1941 ?_
    refine v_iload_n hX dX8_lastOf_16 rfl ?_
    refine tv_iald hX dX8_lastOf_17 hw (by decide) rfl rfl (vnI (Nat.lt_of_lt_of_le hi hP.2.1.1) (by decide)) ?_
    refine v_iconst hX dX8_lastOf_18 li5 ?_
    refine v_icmp_ne (tgt := 39) hX dX8_lastOf_19 rfl (fun c_19 => ?_) (fun c_19 => ?_)
    · refine v_iinc (lv' := [_, _, _]) hX dX8_lastOf_39 rfl li1 rfl rfl ?_
      refine v_goto (tgt := 4) hX dX8_lastOf_42 rfl ?_
      exact V.at rfl (by rw [nI_1, tw_last1, if_neg c_19]) rfl ih
    · refine v_aload_n hX dX8_lastOf_22 rfl ?_
      refine tv_getA hX dX8_lastOf_23 hw 39 (by decide) rfl q1948 ?_
      refine v_iload_n hX dX8_lastOf_26 rfl ?_
      refine tv_iald hX dX8_lastOf_27 hw (by decide) rfl rfl (vnI (Nat.lt_of_lt_of_le hi hP.2.1.1) (by decide)) ?_
      refine v_iload_n hX dX8_lastOf_28 rfl ?_
      refine v_icmp_le (tgt := 39) hX dX8_lastOf_29 rfl (fun c_29 => ?_) (fun c_29 => ?_)
      · refine v_iinc (lv' := [_, _, _]) hX dX8_lastOf_39 rfl li1 rfl rfl ?_
        refine v_goto (tgt := 4) hX dX8_lastOf_42 rfl ?_
        exact V.at rfl (by rw [nI_1, tw_last1, if_pos c_19, if_pos c_29]) rfl ih
      · refine v_aload_n hX dX8_lastOf_32 rfl ?_
        refine tv_getA hX dX8_lastOf_33 hw 39 (by decide) rfl q1948 ?_
        refine v_iload_n hX dX8_lastOf_36 rfl ?_
        refine tv_iald hX dX8_lastOf_37 hw (by decide) rfl rfl (vnI (Nat.lt_of_lt_of_le hi hP.2.1.1) (by decide)) ?_
        refine v_istore_n (lv' := [_, _, _]) hX dX8_lastOf_38 (Nat.le_of_ble_eq_true rfl) rfl rfl ?_
        refine v_iinc (lv' := [_, _, _]) hX dX8_lastOf_39 rfl li1 rfl rfl ?_
        refine v_goto (tgt := 4) hX dX8_lastOf_42 rfl ?_
        exact V.at rfl (by rw [nI_1, tw_last1, if_pos c_19, if_neg c_29]) rfl ih
