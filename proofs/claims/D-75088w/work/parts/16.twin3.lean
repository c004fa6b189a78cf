/-! the twin: the day, what changes -/
set_option maxRecDepth 100000
theorem lb6 : (Int8.ofInt (6)).toInt32 = 6 := by decide +kernel
/-- whom mixers and decks hold are batches -/
def tD (x : TS) : Prop := (∀ m : Nat, m < 3 → tA x 43 (nI m) = -1 ∨ vp_in (tA x 43 (nI m)) (pn x)) ∧ (∀ d : Nat, d < 4 → tA x 47 (nI d) = -1 ∨ vp_in (tA x 47 (nI d)) (pn x)) ∧ ∀ d : Nat, d < 4 → tA x 48 (nI d) = -1 ∨ vp_in (tA x 48 (nI d)) (pn x)
def tE (x : TS) : (Int32 × (Nat → Int32)) × (Nat → Int32) × (Nat → Int32) × (Nat → Int32) := (tK x, x.2.2.1 43, x.2.2.1 47, x.2.2.1 48)
theorem tD.k {x y : TS} (h : tD x) (e : tE y = tE x) : tD y := by
  have e1 : tK y = tK x := congrArg (fun z => z.1) e
  have e2 : y.2.2.1 43 = x.2.2.1 43 := congrArg (fun z => z.2.1) e
  have e3 : y.2.2.1 47 = x.2.2.1 47 := congrArg (fun z => z.2.2.1) e
  have e4 : y.2.2.1 48 = x.2.2.1 48 := congrArg (fun z => z.2.2.2) e
  unfold tD tA
  rw [pn_k e1, e2, e3, e4]
  exact h
theorem tD.s43 {y : TS} {i v : Int32} (h : tD y) (hv : v = -1 ∨ vp_in v (pn y)) : tD (tU y 43 i v) := by
  refine ⟨fun m hm => ?_, h.2.1, h.2.2⟩
  show upd (y.2.2.1 43) i.toNatClampNeg v (nI m).toNatClampNeg = -1 ∨ vp_in (upd (y.2.2.1 43) i.toNatClampNeg v (nI m).toNatClampNeg) (pn y)
  unfold upd
  split
  · exact hv
  · exact h.1 m hm
theorem tD.s47 {y : TS} {i v : Int32} (h : tD y) (hv : v = -1 ∨ vp_in v (pn y)) : tD (tU y 47 i v) := by
  refine ⟨h.1, fun m hm => ?_, h.2.2⟩
  show upd (y.2.2.1 47) i.toNatClampNeg v (nI m).toNatClampNeg = -1 ∨ vp_in (upd (y.2.2.1 47) i.toNatClampNeg v (nI m).toNatClampNeg) (pn y)
  unfold upd
  split
  · exact hv
  · exact h.2.1 m hm
theorem tD.s48 {y : TS} {i v : Int32} (h : tD y) (hv : v = -1 ∨ vp_in v (pn y)) : tD (tU y 48 i v) := by
  refine ⟨h.1, h.2.1, fun m hm => ?_⟩
  show upd (y.2.2.1 48) i.toNatClampNeg v (nI m).toNatClampNeg = -1 ∨ vp_in (upd (y.2.2.1 48) i.toNatClampNeg v (nI m).toNatClampNeg) (pn y)
  unfold upd
  split
  · exact hv
  · exact h.2.2 m hm
theorem tD.u {y : TS} {j : Nat} {i v : Int32} (h : tD y) (hj : j ≠ 1 ∧ j ≠ 43 ∧ j ≠ 47 ∧ j ≠ 48) : tD (tU y j i v) := by
  refine h.k ?_
  show (tK (tU y j i v), va_up y.2.2.1 j _ 43, va_up y.2.2.1 j _ 47, va_up y.2.2.1 j _ 48) = _
  rw [tK_u hj.1, show va_up y.2.2.1 j (upd (y.2.2.1 j) i.toNatClampNeg v) 43 = y.2.2.1 43 from if_neg (Ne.symm hj.2.1), show va_up y.2.2.1 j (upd (y.2.2.1 j) i.toNatClampNeg v) 47 = y.2.2.1 47 from if_neg (Ne.symm hj.2.2.1), show va_up y.2.2.1 j (upd (y.2.2.1 j) i.toNatClampNeg v) 48 = y.2.2.1 48 from if_neg (Ne.symm hj.2.2.2)]
  rfl
theorem lt_pn {x y : TS} {i : Nat} (hi : i < pn x) (e : pn y = pn x) (hP : tP x) : vp_in (nI i) (pn y) := by rw [e]; exact vnI hi (Nat.le_trans hP.2.1.1 (by decide))
theorem lt_pm {x : TS} {i : Nat} (hi : i < pm x) (hP : tP x) : i < 3 := Nat.lt_of_lt_of_le hi hP.2.2.1.2.1
theorem lt_pd {x : TS} {i : Nat} (hi : i < pd x) (hP : tP x) : i < 4 := Nat.lt_of_lt_of_le hi hP.2.2.2.1.2.1
def tw_fin1 (t : Int32) (m : Nat) (x : TS) : TS := if tA x 43 (nI m) = -1 then x else if tA x 44 (nI m) = t then tU (tU (tU (tU x 43 (nI m) (-1)) 32 (tA x 43 (nI m)) 2) 33 (tA x 43 (nI m)) 0) 36 (tA x 43 (nI m)) t else x
def tw_fin2 (t : Int32) (d : Nat) (x : TS) : TS := if tA x 48 (nI d) = -1 then x else if tA x 49 (nI d) = t then tU (tU (tU x 32 (tA x 48 (nI d)) 5) 39 (tA x 48 (nI d)) t) 48 (nI d) (-1) else x
theorem tw_fin1_k (t : Int32) (i : Nat) (y : TS) : tK (tw_fin1 t i y) = tK y := by 
  unfold tw_fin1; repeat' split
  all_goals simp (disch := decide) only [tK_u]
theorem tw_fin2_k (t : Int32) (i : Nat) (y : TS) : tK (tw_fin2 t i y) = tK y := by 
  unfold tw_fin2; repeat' split
  all_goals simp (disch := decide) only [tK_u]
theorem tw_fin1_D (t : Int32) (i : Nat) (y : TS) (h : tD y) : tD (tw_fin1 t i y) := by
  unfold tw_fin1; repeat' split
  · exact h
  · exact (((h.s43 (Or.inl rfl)).u (by decide)).u (by decide)).u (by decide)
  · exact h
theorem tw_fin2_D (t : Int32) (i : Nat) (y : TS) (h : tD y) : tD (tw_fin2 t i y) := by
  unfold tw_fin2; repeat' split
  · exact h
  · exact ((h.u (by decide)).u (by decide)).s48 (Or.inl rfl)
  · exact h
def tw_fin (t : Int32) (x : TS) : TS := it (tw_fin2 t) (pd x) (it (tw_fin1 t) (pm x) x)
theorem tw_fin_k (t : Int32) (x : TS) : tK (tw_fin t x) = tK x := (it_keep tK (tw_fin2_k t) _ _).trans (it_keep tK (tw_fin1_k t) _ _)
theorem tw_fin_D (t : Int32) (x : TS) (h : tD x) : tD (tw_fin t x) := it_inv tD (it_inv tD h _ (fun i y _ => tw_fin1_D t i y) _ (Nat.le_refl _)) _ (fun i y _ => tw_fin2_D t i y) _ (Nat.le_refl _)
theorem cf_X8_finishes : CF RX8 yX8_finishes cX8_finishes 4 none 1 := ⟨q2311, qs74, q150, q2312, by decide +kernel⟩
theorem mX8_finishes {Γ : Gm} {l : Launch} {G : Nat → Nat} {wB : Wd} {x : TS} {w : Wd} (hw : tW Γ G wB x w) (hP : tP x) (hD : tD x) (t : Int32) : M0 Γ l yX8_finishes (ws_ yX8_finishes cX8_finishes 4 none) (rl 1 0 0) 0 0 [.ref (G 61), .int t] w (fun r9 w9 => r9 = none ∧ tW Γ G wB (tw_fin t x) w9) := by
  refine M0.of (lv := [some (.ref (G 61)), some (.int t), none, none]) (by decide) (Nat.le_of_ble_eq_true rfl) 2 rfl rfl ?_
  intro X hX hR hl hG hnm
  subst hl; subst hG
  refine v_iconst hX dX8_finishes_0 li0 ?_
  refine v_istore_n (lv' := [_, _, _, _]) hX dX8_finishes_1 (Nat.le_of_ble_eq_true rfl) rfl rfl ?_
  refine V.no (lv' := [_, _, _, _]) 3 rfl ?_
  refine loop_up (pm x) (fun i => ∀ w, tW (xG X) G wB ((it (tw_fin1 t) (i) x)) w → V X w 0 0 2 [some (.ref (G 61)), some (.int t), some (.int (nI (i))), none] []) ?_ ?_ 0 (Nat.zero_le _) w hw
  · intro w hw
    have hPc : tP (it (tw_fin1 t) (pm x) x) := hP.k (it_keep tK (tw_fin1_k t) _ _)
    have hD1 : tD (it (tw_fin1 t) (pm x) x) := it_inv tD hD (pm x) (fun i y _ => tw_fin1_D t i y) _ (Nat.le_refl _)
    refine v_iload_n hX dX8_finishes_2 rfl ?_
    refine v_aload_n hX dX8_finishes_3 rfl ?_
    refine v_iconst hX dX8_finishes_4 li0 ?_
    refine tv_callR hX rfl dX8_finishes_5 q2229 cf_X8_get hw (mX8_get hw _ (gidx hPc (vin (by decide)))) rfl ⟨rfl, rfl⟩ ⟨Nat.le_of_ble_eq_true rfl, Nat.le_of_ble_eq_true rfl⟩ rfl (Nat.le_of_ble_eq_true rfl) ⟨Nat.le_of_ble_eq_true rfl, Nat.le_of_ble_eq_true rfl⟩ ?_
    refine v_icmp_ge_t (tgt := 75) hX dX8_finishes_8 rfl (ge_x ((tG_k (it_keep tK (tw_fin1_k t) (pm x) (x)) 0).trans hP.2.2.1.2.2) rfl) ?_
    refine v_iconst hX dX8_finishes_75 li0 ?_
    refine v_istore_n (lv' := [_, _, _, _]) hX dX8_finishes_76 (Nat.le_of_ble_eq_true rfl) rfl rfl ?_
    refine V.no (lv' := [_, _, _, _]) 3 rfl ?_
    refine loop_up (pd x) (fun i => ∀ w, tW (xG X) G wB ((it (tw_fin2 t) (i) (it (tw_fin1 t) (pm x) x))) w → V X w 0 0 77 [some (.ref (G 61)), some (.int t), some (.int (nI (i))), none] []) ?_ ?_ 0 (Nat.zero_le _) w hw
    · intro w hw
      have hPc : tP (it (tw_fin2 t) (pd x) (it (tw_fin1 t) (pm x) x)) := hP.k (tw_fin_k t x)
      refine v_iload_n hX dX8_finishes_77 rfl ?_
      refine v_aload_n hX dX8_finishes_78 rfl ?_
      refine v_iconst hX dX8_finishes_79 li1 ?_
      refine tv_callR hX rfl dX8_finishes_80 q2229 cf_X8_get hw (mX8_get hw _ (gidx hPc (vin (by decide)))) rfl ⟨rfl, rfl⟩ ⟨Nat.le_of_ble_eq_true rfl, Nat.le_of_ble_eq_true rfl⟩ rfl (Nat.le_of_ble_eq_true rfl) ⟨Nat.le_of_ble_eq_true rfl, Nat.le_of_ble_eq_true rfl⟩ ?_
      refine v_icmp_ge_t (tgt := 146) hX dX8_finishes_83 rfl (ge_x ((tG_k ((it_keep tK (tw_fin2_k t) (pd x) ((it (tw_fin1 t) (pm x) x))).trans (it_keep tK (tw_fin1_k t) (pm x) x)) 1).trans hP.2.2.2.1.2.2) rfl) ?_
      exact v_vret hX dX8_finishes_146 hR (Nat.le_of_ble_eq_true rfl) (Nat.le_of_ble_eq_true rfl) (⟨rfl, hw⟩)
    · intro i hi ih w hw
      have ih : ∀ w, tW (xG X) G wB (((tw_fin2 t) i (it (tw_fin2 t) (i) (it (tw_fin1 t) (pm x) x)))) w → V X w 0 0 77 [some (.ref (G 61)), some (.int t), some (.int (nI (i + 1))), none] [] := ih
      have hPy : tP (it (tw_fin2 t) i (it (tw_fin1 t) (pm x) x)) := hP.k ((it_keep tK (tw_fin2_k t) (i) ((it (tw_fin1 t) (pm x) x))).trans (it_keep tK (tw_fin1_k t) (pm x) x))
      have hg : tG (it (tw_fin2 t) i (it (tw_fin1 t) (pm x) x)) 1 = nI (pd x) := ((tG_k ((it_keep tK (tw_fin2_k t) (i) ((it (tw_fin1 t) (pm x) x))).trans (it_keep tK (tw_fin1_k t) (pm x) x)) 1).trans hP.2.2.2.1.2.2)
      have hny : pn (it (tw_fin2 t) i (it (tw_fin1 t) (pm x) x)) = pn x := pn_k ((it_keep tK (tw_fin2_k t) (i) ((it (tw_fin1 t) (pm x) x))).trans (it_keep tK (tw_fin1_k t) (pm x) x))
      have hDy : tD (it (tw_fin2 t) i (it (tw_fin1 t) (pm x) x)) := it_inv tD hD1 (pd x) (fun i y _ => tw_fin2_D t i y) i (Nat.le_of_lt hi)
      have hPc := hPy
      generalize (it (tw_fin2 t) (i) (it (tw_fin1 t) (pm x) x)) = y at hw ih hPy hg hny hDy hPc
      refine v_iload_n hX dX8_finishes_77 rfl ?_
      refine v_aload_n hX dX8_finishes_78 rfl ?_
      refine v_iconst hX dX8_finishes_79 li1 ?_
      refine tv_callR hX rfl dX8_finishes_80 q2229 cf_X8_get hw (mX8_get hw _ (gidx hPc (vin (by decide)))) rfl ⟨rfl, rfl⟩ ⟨Nat.le_of_ble_eq_true rfl, Nat.le_of_ble_eq_true rfl⟩ rfl (Nat.le_of_ble_eq_true rfl) ⟨Nat.le_of_ble_eq_true rfl, Nat.le_of_ble_eq_true rfl⟩ ?_
      refine v_icmp_ge_f (tgt := 146) hX dX8_finishes_83 rfl (ge_s hg hi (Nat.le_trans hP.2.2.2.1.2.1 (by decide))) ?_
      refine v_aload_n hX dX8_finishes_86 rfl ?_
      refine tv_getA hX dX8_finishes_87 hw 48 (by decide) rfl q1957 ?_
      refine v_iload_n hX dX8_finishes_90 rfl ?_
      refine tv_iald hX dX8_finishes_91 hw (by decide) rfl rfl (vnI (Nat.lt_of_lt_of_le hi hP.2.2.2.1.2.1) (by decide)) ?_
      refine v_iconst hX dX8_finishes_92 lim1 ?_
      refine v_icmp_eq (tgt := 140) hX dX8_finishes_93 rfl (fun c_93 => ?_) (fun c_93 => ?_)
      · refine v_iinc (lv' := [_, _, _, _]) hX dX8_finishes_140 rfl li1 rfl rfl ?_
        refine v_goto (tgt := 77) hX dX8_finishes_143 rfl ?_
        refine V.no (lv' := [_, _, _, _]) 3 rfl ?_
        exact V.at rfl (by rw [nI_1]) rfl (ih w (hw.to (by first | (rw [tw_fin2, if_pos c_93]; done) | (rw [tw_fin2, if_pos c_93]; rfl))))
      · refine v_aload_n hX dX8_finishes_96 rfl ?_
        refine tv_getA hX dX8_finishes_97 hw 49 (by decide) rfl q1958 ?_
        refine v_iload_n hX dX8_finishes_100 rfl ?_
        refine tv_iald hX dX8_finishes_101 hw (by decide) rfl rfl (vnI (Nat.lt_of_lt_of_le hi hP.2.2.2.1.2.1) (by decide)) ?_
        refine v_iload_n hX dX8_finishes_102 rfl ?_
        refine v_icmp_eq (tgt := 109) hX dX8_finishes_103 rfl (fun c_103 => ?_) (fun c_103 => ?_)
        · refine v_aload_n hX dX8_finishes_109 rfl ?_
          refine tv_getA hX dX8_finishes_110 hw 32 (by decide) rfl q1941 ?_
          refine v_aload_n hX dX8_finishes_113 rfl ?_
          refine tv_getA hX dX8_finishes_114 hw 48 (by decide) rfl q1957 ?_
          refine v_iload_n hX dX8_finishes_117 rfl ?_
          refine tv_iald hX dX8_finishes_118 hw (by decide) rfl rfl (vnI (Nat.lt_of_lt_of_le hi hP.2.2.2.1.2.1) (by decide)) ?_
          refine v_iconst hX dX8_finishes_119 li5 ?_
          refine tv_iast hX dX8_finishes_120 hw (by decide) rfl rfl (b20 hPy ((hDy.2.2 i (lt_pd hi hP)).resolve_left c_93)) (fun w hw => ?_)
          refine v_aload_n hX dX8_finishes_121 rfl ?_
          refine tv_getA hX dX8_finishes_122 hw 39 (by decide) rfl q1948 ?_
          refine v_aload_n hX dX8_finishes_125 rfl ?_
          refine tv_getA hX dX8_finishes_126 hw 48 (by decide) rfl q1957 ?_
          refine v_iload_n hX dX8_finishes_129 rfl ?_
          refine tv_iald hX dX8_finishes_130 hw (by decide) rfl rfl (vnI (Nat.lt_of_lt_of_le hi hP.2.2.2.1.2.1) (by decide)) ?_
          refine v_iload_n hX dX8_finishes_131 rfl ?_
          refine tv_iast hX dX8_finishes_132 hw (by decide) rfl rfl (b20 hPy ((hDy.2.2 i (lt_pd hi hP)).resolve_left c_93)) (fun w hw => ?_)
          refine v_aload_n hX dX8_finishes_133 rfl ?_
          refine tv_getA hX dX8_finishes_134 hw 48 (by decide) rfl q1957 ?_
          refine v_iload_n hX dX8_finishes_137 rfl ?_
          refine v_iconst hX dX8_finishes_138 lim1 ?_
          refine tv_iast hX dX8_finishes_139 hw (by decide) rfl rfl (vnI (Nat.lt_of_lt_of_le hi hP.2.2.2.1.2.1) (by decide)) (fun w hw => ?_)
          refine v_iinc (lv' := [_, _, _, _]) hX dX8_finishes_140 rfl li1 rfl rfl ?_
          refine v_goto (tgt := 77) hX dX8_finishes_143 rfl ?_
          refine V.no (lv' := [_, _, _, _]) 3 rfl ?_
          exact V.at rfl (by rw [nI_1]) rfl (ih w (hw.to (by first | (rw [tw_fin2, if_neg c_93, if_pos c_103]; done) | (rw [tw_fin2, if_neg c_93, if_pos c_103]; rfl))))
        · refine v_goto (tgt := 140) hX dX8_finishes_106 rfl ?_
          refine v_iinc (lv' := [_, _, _, _]) hX dX8_finishes_140 rfl li1 rfl rfl ?_
          refine v_goto (tgt := 77) hX dX8_finishes_143 rfl ?_
          refine V.no (lv' := [_, _, _, _]) 3 rfl ?_
          exact V.at rfl (by rw [nI_1]) rfl (ih w (hw.to (by first | (rw [tw_fin2, if_neg c_93, if_neg c_103]; done) | (rw [tw_fin2, if_neg c_93, if_neg c_103]; rfl))))
  · intro i hi ih w hw
    have ih : ∀ w, tW (xG X) G wB (((tw_fin1 t) i (it (tw_fin1 t) (i) x))) w → V X w 0 0 2 [some (.ref (G 61)), some (.int t), some (.int (nI (i + 1))), none] [] := ih
    have hPy : tP (it (tw_fin1 t) i x) := hP.k (it_keep tK (tw_fin1_k t) (i) (x))
    have hg : tG (it (tw_fin1 t) i x) 0 = nI (pm x) := ((tG_k (it_keep tK (tw_fin1_k t) (i) (x)) 0).trans hP.2.2.1.2.2)
    have hny : pn (it (tw_fin1 t) i x) = pn x := pn_k (it_keep tK (tw_fin1_k t) (i) (x))
    have hDy : tD (it (tw_fin1 t) i x) := it_inv tD hD (pm x) (fun i y _ => tw_fin1_D t i y) i (Nat.le_of_lt hi)
    have hPc := hPy
    generalize (it (tw_fin1 t) (i) x) = y at hw ih hPy hg hny hDy hPc
    refine v_iload_n hX dX8_finishes_2 rfl ?_
    refine v_aload_n hX dX8_finishes_3 rfl ?_
    refine v_iconst hX dX8_finishes_4 li0 ?_
    refine tv_callR hX rfl dX8_finishes_5 q2229 cf_X8_get hw (mX8_get hw _ (gidx hPc (vin (by decide)))) rfl ⟨rfl, rfl⟩ ⟨Nat.le_of_ble_eq_true rfl, Nat.le_of_ble_eq_true rfl⟩ rfl (Nat.le_of_ble_eq_true rfl) ⟨Nat.le_of_ble_eq_true rfl, Nat.le_of_ble_eq_true rfl⟩ ?_
    refine v_icmp_ge_f (tgt := 75) hX dX8_finishes_8 rfl (ge_s hg hi (Nat.le_trans hP.2.2.1.2.1 (by decide))) ?_
    refine v_aload_n hX dX8_finishes_11 rfl ?_
    refine tv_getA hX dX8_finishes_12 hw 43 (by decide) rfl q1952 ?_
    refine v_iload_n hX dX8_finishes_15 rfl ?_
    refine tv_iald hX dX8_finishes_16 hw (by decide) rfl rfl (vnI (Nat.lt_of_lt_of_le hi hP.2.2.1.2.1) (by decide)) ?_
    refine v_iconst hX dX8_finishes_17 lim1 ?_
    refine v_icmp_eq (tgt := 69) hX dX8_finishes_18 rfl (fun c_18 => ?_) (fun c_18 => ?_)
    · refine v_iinc (lv' := [_, _, _, _]) hX dX8_finishes_69 rfl li1 rfl rfl ?_
      refine v_goto (tgt := 2) hX dX8_finishes_72 rfl ?_
      refine V.no (lv' := [_, _, _, _]) 3 rfl ?_
      exact V.at rfl (by rw [nI_1]) rfl (ih w (hw.to (by first | (rw [tw_fin1, if_pos c_18]; done) | (rw [tw_fin1, if_pos c_18]; rfl))))
    · refine v_aload_n hX dX8_finishes_21 rfl ?_
      refine tv_getA hX dX8_finishes_22 hw 44 (by decide) rfl q1953 ?_
      refine v_iload_n hX dX8_finishes_25 rfl ?_
      refine tv_iald hX dX8_finishes_26 hw (by decide) rfl rfl (vnI (Nat.lt_of_lt_of_le hi hP.2.2.1.2.1) (by decide)) ?_
      refine v_iload_n hX dX8_finishes_27 rfl ?_
      refine v_icmp_eq (tgt := 34) hX dX8_finishes_28 rfl (fun c_28 => ?_) (fun c_28 => ?_)
      · refine v_aload_n hX dX8_finishes_34 rfl ?_
        refine tv_getA hX dX8_finishes_35 hw 43 (by decide) rfl q1952 ?_
        refine v_iload_n hX dX8_finishes_38 rfl ?_
        refine tv_iald hX dX8_finishes_39 hw (by decide) rfl rfl (vnI (Nat.lt_of_lt_of_le hi hP.2.2.1.2.1) (by decide)) ?_
        refine v_istore_n (lv' := [_, _, _, _]) hX dX8_finishes_40 (Nat.le_of_ble_eq_true rfl) rfl rfl ?_
        refine v_aload_n hX dX8_finishes_41 rfl ?_
        refine tv_getA hX dX8_finishes_42 hw 43 (by decide) rfl q1952 ?_
        refine v_iload_n hX dX8_finishes_45 rfl ?_
        refine v_iconst hX dX8_finishes_46 lim1 ?_
        refine tv_iast hX dX8_finishes_47 hw (by decide) rfl rfl (vnI (Nat.lt_of_lt_of_le hi hP.2.2.1.2.1) (by decide)) (fun w hw => ?_)
        refine v_aload_n hX dX8_finishes_48 rfl ?_
        refine tv_getA hX dX8_finishes_49 hw 32 (by decide) rfl q1941 ?_
        refine v_iload_n hX dX8_finishes_52 rfl ?_
        refine v_iconst hX dX8_finishes_53 li2 ?_
        refine tv_iast hX dX8_finishes_54 hw (by decide) rfl rfl (b20 hPy ((hDy.1 i (lt_pm hi hP)).resolve_left c_18)) (fun w hw => ?_)
        refine v_aload_n hX dX8_finishes_55 rfl ?_
        refine tv_getA hX dX8_finishes_56 hw 33 (by decide) rfl q1942 ?_
        refine v_iload_n hX dX8_finishes_59 rfl ?_
        refine v_iconst hX dX8_finishes_60 li0 ?_
        refine tv_iast hX dX8_finishes_61 hw (by decide) rfl rfl (b20 hPy ((hDy.1 i (lt_pm hi hP)).resolve_left c_18)) (fun w hw => ?_)
        refine v_aload_n hX dX8_finishes_62 rfl ?_
        refine tv_getA hX dX8_finishes_63 hw 36 (by decide) rfl q1945 ?_
        refine v_iload_n hX dX8_finishes_66 rfl ?_
        refine v_iload_n hX dX8_finishes_67 rfl ?_
        refine tv_iast hX dX8_finishes_68 hw (by decide) rfl rfl (b20 hPy ((hDy.1 i (lt_pm hi hP)).resolve_left c_18)) (fun w hw => ?_)
        refine v_iinc (lv' := [_, _, _, _]) hX dX8_finishes_69 rfl li1 rfl rfl ?_
        refine v_goto (tgt := 2) hX dX8_finishes_72 rfl ?_
        refine V.no (lv' := [_, _, _, _]) 3 rfl ?_
        exact V.at rfl (by rw [nI_1]) rfl (ih w (hw.to (by first | (rw [tw_fin1, if_neg c_18, if_pos c_28]; done) | (rw [tw_fin1, if_neg c_18, if_pos c_28]; rfl))))
      · refine v_goto (tgt := 69) hX dX8_finishes_31 rfl ?_
        refine v_iinc (lv' := [_, _, _, _]) hX dX8_finishes_69 rfl li1 rfl rfl ?_
        refine v_goto (tgt := 2) hX dX8_finishes_72 rfl ?_
        refine V.no (lv' := [_, _, _, _]) 3 rfl ?_
        exact V.at rfl (by rw [nI_1]) rfl (ih w (hw.to (by first | (rw [tw_fin1, if_neg c_18, if_neg c_28]; done) | (rw [tw_fin1, if_neg c_18, if_neg c_28]; rfl))))
theorem vp_pn {x y : TS} {b : Int32} (h : tK y = tK x) (hb : vp_in b (pn x)) : vp_in b (pn y) := by rw [pn_k h]; exact hb
theorem tD.si {y : TS} {j : Nat} {v : Int32} (h : tD y) (hj : j ≠ 2) : tD (sI y j v) := by
  refine h.k ?_
  show (tK (sI y j v), y.2.2.1 43, y.2.2.1 47, y.2.2.1 48) = _
  rw [tK_sI hj]
  rfl
theorem it_stuck {σ : Type} {F : Nat → σ → σ} {s : σ} {i N : Nat} (hi : i ≤ N) (h : ∀ j, F j (it F i s) = it F i s) : it F N s = it F i s := by
  have key : ∀ k, it F (i + k) s = it F i s := by
    intro k
    induction k with
    | zero => rfl
    | succ k ih => exact (congrArg (F (i + k)) ih).trans (h _)
  have := key (N - i)
  rwa [show i + (N - i) = N by omega] at this
def tw_unr1 (b : Int32) (d : Nat) (x : TS) : TS := if tA x 47 (nI d) = b then tU x 47 (nI d) (-1) else x
def tw_unr (b : Int32) (x : TS) : TS := it (tw_unr1 b) (pd x) x
theorem tw_unr1_k (b : Int32) (i : Nat) (y : TS) : tK (tw_unr1 b i y) = tK y := by
  unfold tw_unr1; repeat' split
  all_goals simp (disch := decide) only [tK_u, tK_sI]
theorem tw_unr1_D (b : Int32) (i : Nat) (y : TS) (h : tD y) : tD (tw_unr1 b i y) := by
  unfold tw_unr1; repeat' split
  all_goals repeat (first | exact h | exact Or.inl rfl | refine tD.u ?_ (by decide) | refine tD.s43 ?_ ?_ | refine tD.s47 ?_ ?_ | refine tD.s48 ?_ ?_ | refine tD.si ?_ (by decide))
theorem tw_unr_k (b : Int32) (x : TS) : tK (tw_unr b x) = tK x := it_keep tK (tw_unr1_k b) _ _
theorem tw_unr_D (b : Int32) (x : TS) (h : tD x) : tD (tw_unr b x) := it_inv tD h _ (fun i y _ => tw_unr1_D b i y) _ (Nat.le_refl _)
theorem tD.un {y : TS} {b : Int32} (h : tD y) : tD (tw_unr b y) := tw_unr_D b y h
theorem cf_X8_unreserve : CF RX8 yX8_unreserve cX8_unreserve 3 none 1 := ⟨q2331, qs79, q150, q2332, by decide +kernel⟩
theorem mX8_unreserve {Γ : Gm} {l : Launch} {G : Nat → Nat} {wB : Wd} {x : TS} {w : Wd} (hw : tW Γ G wB x w) (hP : tP x) (b : Int32) : M0 Γ l yX8_unreserve (ws_ yX8_unreserve cX8_unreserve 3 none) (rl 1 0 0) 0 0 [.ref (G 61), .int b] w (fun r9 w9 => r9 = none ∧ tW Γ G wB (tw_unr b x) w9) := by
  refine M0.of (lv := [some (.ref (G 61)), some (.int b), none]) (by decide) (Nat.le_of_ble_eq_true rfl) 1 rfl rfl ?_
  intro X hX hR hl hG hnm
  subst hl; subst hG
  refine v_iconst hX dX8_unreserve_0 li0 ?_
  refine v_istore_n (lv' := [_, _, _]) hX dX8_unreserve_1 (Nat.le_of_ble_eq_true rfl) rfl rfl ?_
  refine loop_up (pd x) (fun i => ∀ w, tW (xG X) G wB ((it (tw_unr1 b) (i) x)) w → V X w 0 0 2 [some (.ref (G 61)), some (.int b), some (.int (nI (i)))] []) ?_ ?_ 0 (Nat.zero_le _) w hw
  · intro w hw
    have hPc : tP (it (tw_unr1 b) (pd x) x) := hP.k (it_keep tK (tw_unr1_k b) _ _)
    refine v_iload_n hX dX8_unreserve_2 rfl ?_
    refine v_aload_n hX dX8_unreserve_3 rfl ?_
    refine v_iconst hX dX8_unreserve_4 li1 ?_
    refine tv_callR hX rfl dX8_unreserve_5 q2229 cf_X8_get hw (mX8_get hw _ (gidx hPc (vin (by decide)))) rfl ⟨rfl, rfl⟩ ⟨Nat.le_of_ble_eq_true rfl, Nat.le_of_ble_eq_true rfl⟩ rfl (Nat.le_of_ble_eq_true rfl) ⟨Nat.le_of_ble_eq_true rfl, Nat.le_of_ble_eq_true rfl⟩ ?_
    refine v_icmp_ge_t (tgt := 34) hX dX8_unreserve_8 rfl (ge_x ((tG_k (it_keep tK (tw_unr1_k b) (pd x) (x)) 1).trans hP.2.2.2.1.2.2) rfl) ?_
    exact v_vret hX dX8_unreserve_34 hR (Nat.le_of_ble_eq_true rfl) (Nat.le_of_ble_eq_true rfl) (⟨rfl, hw⟩)
  · intro i hi ih w hw
    have ih : ∀ w, tW (xG X) G wB (((tw_unr1 b) i (it (tw_unr1 b) (i) x))) w → V X w 0 0 2 [some (.ref (G 61)), some (.int b), some (.int (nI (i + 1)))] [] := ih
    have hPy : tP (it (tw_unr1 b) i x) := hP.k (it_keep tK (tw_unr1_k b) (i) (x))
    have hg : tG (it (tw_unr1 b) i x) 1 = nI (pd x) := ((tG_k (it_keep tK (tw_unr1_k b) (i) (x)) 1).trans hP.2.2.2.1.2.2)
    have hny : pn (it (tw_unr1 b) i x) = pn x := pn_k (it_keep tK (tw_unr1_k b) (i) (x))
    have hPc := hPy
    generalize (it (tw_unr1 b) (i) x) = y at hw ih hPy hg hny hPc
    refine v_iload_n hX dX8_unreserve_2 rfl ?_
    refine v_aload_n hX dX8_unreserve_3 rfl ?_
    refine v_iconst hX dX8_unreserve_4 li1 ?_
    refine tv_callR hX rfl dX8_unreserve_5 q2229 cf_X8_get hw (mX8_get hw _ (gidx hPc (vin (by decide)))) rfl ⟨rfl, rfl⟩ ⟨Nat.le_of_ble_eq_true rfl, Nat.le_of_ble_eq_true rfl⟩ rfl (Nat.le_of_ble_eq_true rfl) ⟨Nat.le_of_ble_eq_true rfl, Nat.le_of_ble_eq_true rfl⟩ ?_
    refine v_icmp_ge_f (tgt := 34) hX dX8_unreserve_8 rfl (ge_s hg hi (Nat.le_trans hP.2.2.2.1.2.1 (by decide))) ?_
    refine v_aload_n hX dX8_unreserve_11 rfl ?_
    refine tv_getA hX dX8_unreserve_12 hw 47 (by decide) rfl q1956 ?_
    refine v_iload_n hX dX8_unreserve_15 rfl ?_
    refine tv_iald hX dX8_unreserve_16 hw (by decide) rfl rfl (vnI (Nat.lt_of_lt_of_le hi hP.2.2.2.1.2.1) (by decide)) ?_
    refine v_iload_n hX dX8_unreserve_17 rfl ?_
    refine v_icmp_ne (tgt := 28) hX dX8_unreserve_18 rfl (fun c_18 => ?_) (fun c_18 => ?_)
    · refine v_iinc (lv' := [_, _, _]) hX dX8_unreserve_28 rfl li1 rfl rfl ?_
      refine v_goto (tgt := 2) hX dX8_unreserve_31 rfl ?_
      exact V.at rfl (by rw [nI_1]) rfl (ih w (hw.to (by first | (rw [tw_unr1, if_neg c_18]; done) | (rw [tw_unr1, if_neg c_18]; rfl))))
    · refine v_aload_n hX dX8_unreserve_21 rfl ?_
      refine tv_getA hX dX8_unreserve_22 hw 47 (by decide) rfl q1956 ?_
      refine v_iload_n hX dX8_unreserve_25 rfl ?_
      refine v_iconst hX dX8_unreserve_26 lim1 ?_
      refine tv_iast hX dX8_unreserve_27 hw (by decide) rfl rfl (vnI (Nat.lt_of_lt_of_le hi hP.2.2.2.1.2.1) (by decide)) (fun w hw => ?_)
      refine v_iinc (lv' := [_, _, _]) hX dX8_unreserve_28 rfl li1 rfl rfl ?_
      refine v_goto (tgt := 2) hX dX8_unreserve_31 rfl ?_
      exact V.at rfl (by rw [nI_1]) rfl (ih w (hw.to (by first | (rw [tw_unr1, if_pos c_18]; done) | (rw [tw_unr1, if_pos c_18]; rfl))))
def tw_los1 (t : Int32) (b : Nat) (x : TS) : TS := if tA x 32 (nI b) = 2 ∨ tA x 32 (nI b) = 3 then if tw_old x (nI b) < tA x 33 (nI b) then tw_unr (nI b) (tU (tU x 32 (nI b) 6) 40 (nI b) t) else x else x
theorem tw_los1_k (t : Int32) (i : Nat) (y : TS) : tK (tw_los1 t i y) = tK y := by
  unfold tw_los1; repeat' split
  all_goals simp (disch := decide) only [tK_u, tw_unr_k]
theorem tw_los1_D (t : Int32) (i : Nat) (y : TS) (h : tD y) : tD (tw_los1 t i y) := by
  unfold tw_los1; repeat' split
  · exact ((h.u (by decide)).u (by decide)).un
  · exact h
  · exact h
def tw_los (t : Int32) (x : TS) : TS := it (tw_los1 t) (pn x) x
theorem tw_los_k (t : Int32) (x : TS) : tK (tw_los t x) = tK x := it_keep tK (tw_los1_k t) _ _
theorem tw_los_D (t : Int32) (x : TS) (h : tD x) : tD (tw_los t x) := it_inv tD h _ (fun i y _ => tw_los1_D t i y) _ (Nat.le_refl _)
theorem cf_X8_loses : CF RX8 yX8_loses cX8_loses 3 none 1 := ⟨q2315, qs75, q150, q2316, by decide +kernel⟩
theorem mX8_loses {Γ : Gm} {l : Launch} {G : Nat → Nat} {wB : Wd} {x : TS} {w : Wd} (hw : tW Γ G wB x w) (hP : tP x) (t : Int32) : M0 Γ l yX8_loses (ws_ yX8_loses cX8_loses 3 none) (rl 3 0 0) 0 0 [.ref (G 61), .int t] w (fun r9 w9 => r9 = none ∧ tW Γ G wB (tw_los t x) w9) := by
  refine M0.of (lv := [some (.ref (G 61)), some (.int t), none]) (by decide) (Nat.le_of_ble_eq_true rfl) 1 rfl rfl ?_
  intro X hX hR hl hG hnm
  subst hl; subst hG
  refine v_iconst hX dX8_loses_0 li0 ?_
  refine v_istore_n (lv' := [_, _, _]) hX dX8_loses_1 (Nat.le_of_ble_eq_true rfl) rfl rfl ?_
  refine loop_up (pn x) (fun i => ∀ w, tW (xG X) G wB ((it (tw_los1 t) (i) x)) w → V X w 0 0 2 [some (.ref (G 61)), some (.int t), some (.int (nI (i)))] []) ?_ ?_ 0 (Nat.zero_le _) w hw
  · intro w hw
    have hPc : tP (it (tw_los1 t) (pn x) x) := hP.k (it_keep tK (tw_los1_k t) _ _)
    refine v_iload_n hX dX8_loses_2 rfl ?_
    refine v_aload_n hX dX8_loses_3 rfl ?_
    refine tv_callR hX rfl dX8_loses_4 q2225 cf_X8_many hw (mX8_many hw hPc) rfl ⟨rfl, rfl⟩ ⟨Nat.le_of_ble_eq_true rfl, Nat.le_of_ble_eq_true rfl⟩ rfl (Nat.le_of_ble_eq_true rfl) ⟨Nat.le_of_ble_eq_true rfl, Nat.le_of_ble_eq_true rfl⟩ ?_
    refine v_icmp_ge_t (tgt := 61) hX dX8_loses_7 rfl (ge_x ((tG_k (it_keep tK (tw_los1_k t) (pn x) (x)) 8).trans hP.2.1.2) rfl) ?_
    exact v_vret hX dX8_loses_61 hR (Nat.le_of_ble_eq_true rfl) (Nat.le_of_ble_eq_true rfl) (⟨rfl, hw⟩)
  · intro i hi ih w hw
    have ih : ∀ w, tW (xG X) G wB (((tw_los1 t) i (it (tw_los1 t) (i) x))) w → V X w 0 0 2 [some (.ref (G 61)), some (.int t), some (.int (nI (i + 1)))] [] := ih
    have hPy : tP (it (tw_los1 t) i x) := hP.k (it_keep tK (tw_los1_k t) (i) (x))
    have hg : tG (it (tw_los1 t) i x) 8 = nI (pn x) := ((tG_k (it_keep tK (tw_los1_k t) (i) (x)) 8).trans hP.2.1.2)
    have hny : pn (it (tw_los1 t) i x) = pn x := pn_k (it_keep tK (tw_los1_k t) (i) (x))
    have hPc := hPy
    generalize (it (tw_los1 t) (i) x) = y at hw ih hPy hg hny hPc
    refine v_iload_n hX dX8_loses_2 rfl ?_
    refine v_aload_n hX dX8_loses_3 rfl ?_
    refine tv_callR hX rfl dX8_loses_4 q2225 cf_X8_many hw (mX8_many hw hPc) rfl ⟨rfl, rfl⟩ ⟨Nat.le_of_ble_eq_true rfl, Nat.le_of_ble_eq_true rfl⟩ rfl (Nat.le_of_ble_eq_true rfl) ⟨Nat.le_of_ble_eq_true rfl, Nat.le_of_ble_eq_true rfl⟩ ?_
    refine v_icmp_ge_f (tgt := 61) hX dX8_loses_7 rfl (ge_s hg hi (Nat.le_trans hP.2.1.1 (by decide))) ?_
    refine v_aload_n hX dX8_loses_10 rfl ?_
    refine v_iload_n hX dX8_loses_11 rfl ?_
    refine tv_callR hX rfl dX8_loses_12 q2317 cf_X8_isProofing hw (mX8_isProofing hw _ (b20 hPy (lt_pn hi hny hP))) rfl ⟨rfl, rfl⟩ ⟨Nat.le_of_ble_eq_true rfl, Nat.le_of_ble_eq_true rfl⟩ rfl (Nat.le_of_ble_eq_true rfl) ⟨Nat.le_of_ble_eq_true rfl, Nat.le_of_ble_eq_true rfl⟩ ?_
    refine v_ifb_eq (tgt := 55) hX dX8_loses_15 rfl (fun c_15 => ?_) (fun c_15 => ?_)
    · refine v_iinc (lv' := [_, _, _]) hX dX8_loses_55 rfl li1 rfl rfl ?_
      refine v_goto (tgt := 2) hX dX8_loses_58 rfl ?_
      exact V.at rfl (by rw [nI_1]) rfl (ih w (hw.to (by first | (rw [tw_los1, if_neg c_15]; done) | (rw [tw_los1, if_neg c_15]; rfl))))
    · refine v_aload_n hX dX8_loses_18 rfl ?_
      refine tv_getA hX dX8_loses_19 hw 33 (by decide) rfl q1942 ?_
      refine v_iload_n hX dX8_loses_22 rfl ?_
      refine tv_iald hX dX8_loses_23 hw (by decide) rfl rfl (vnI (Nat.lt_of_lt_of_le hi hP.2.1.1) (by decide)) ?_
      refine v_aload_n hX dX8_loses_24 rfl ?_
      refine v_iload_n hX dX8_loses_25 rfl ?_
      refine tv_callR hX rfl dX8_loses_26 q2321 cf_X8_oldParts hw (mX8_oldParts hw hPy _ (lt_pn hi hny hP)) rfl ⟨rfl, rfl⟩ ⟨Nat.le_of_ble_eq_true rfl, Nat.le_of_ble_eq_true rfl⟩ rfl (Nat.le_of_ble_eq_true rfl) ⟨Nat.le_of_ble_eq_true rfl, Nat.le_of_ble_eq_true rfl⟩ ?_
      refine v_icmp_gt (tgt := 35) hX dX8_loses_29 rfl (fun c_29 => ?_) (fun c_29 => ?_)
      · refine v_aload_n hX dX8_loses_35 rfl ?_
        refine tv_getA hX dX8_loses_36 hw 32 (by decide) rfl q1941 ?_
        refine v_iload_n hX dX8_loses_39 rfl ?_
        refine v_bipush hX dX8_loses_40 lb6 ?_
        refine tv_iast hX dX8_loses_42 hw (by decide) rfl rfl (vnI (Nat.lt_of_lt_of_le hi hP.2.1.1) (by decide)) (fun w hw => ?_)
        refine v_aload_n hX dX8_loses_43 rfl ?_
        refine tv_getA hX dX8_loses_44 hw 40 (by decide) rfl q1949 ?_
        refine v_iload_n hX dX8_loses_47 rfl ?_
        refine v_iload_n hX dX8_loses_48 rfl ?_
        refine tv_iast hX dX8_loses_49 hw (by decide) rfl rfl (vnI (Nat.lt_of_lt_of_le hi hP.2.1.1) (by decide)) (fun w hw => ?_)
        refine v_aload_n hX dX8_loses_50 rfl ?_
        refine v_iload_n hX dX8_loses_51 rfl ?_
        refine tv_call0 hX rfl dX8_loses_52 q2329 cf_X8_unreserve hw (mX8_unreserve hw (hPy.k (by simp (disch := decide) only [tK_u])) _) rfl ⟨rfl, rfl⟩ ⟨Nat.le_of_ble_eq_true rfl, Nat.le_of_ble_eq_true rfl⟩ rfl (Nat.le_of_ble_eq_true rfl) ⟨Nat.le_of_ble_eq_true rfl, Nat.le_of_ble_eq_true rfl⟩ (fun w hw => ?_)
        refine v_iinc (lv' := [_, _, _]) hX dX8_loses_55 rfl li1 rfl rfl ?_
        refine v_goto (tgt := 2) hX dX8_loses_58 rfl ?_
        exact V.at rfl (by rw [nI_1]) rfl (ih w (hw.to (by first | (rw [tw_los1, if_pos c_15, if_pos c_29]; done) | (rw [tw_los1, if_pos c_15, if_pos c_29]; rfl))))
      · refine v_goto (tgt := 55) hX dX8_loses_32 rfl ?_
        refine v_iinc (lv' := [_, _, _]) hX dX8_loses_55 rfl li1 rfl rfl ?_
        refine v_goto (tgt := 2) hX dX8_loses_58 rfl ?_
        exact V.at rfl (by rw [nI_1]) rfl (ih w (hw.to (by first | (rw [tw_los1, if_pos c_15, if_neg c_29]; done) | (rw [tw_los1, if_pos c_15, if_neg c_29]; rfl))))
def tw_res1 (d : Nat) (x : TS) : TS := if tA x 47 (nI d) = -1 ∧ tA x 48 (nI d) = -1 then tU x 47 (nI d) (tw_best x (nI d)) else x
theorem tw_res1_k (i : Nat) (y : TS) : tK (tw_res1 i y) = tK y := by
  unfold tw_res1; repeat' split
  all_goals simp (disch := decide) only [tK_u]
theorem tw_res1_D (i : Nat) (y : TS) (hP : tP y) (h : tD y) : tD (tw_res1 i y) := by
  unfold tw_res1; repeat' split
  · exact h.s47 (tw_bst_ok hP (nI i) (pn y) (Nat.le_refl _))
  · exact h
def tw_res (x : TS) : TS := it tw_res1 (pd x) x
theorem tw_res_k (x : TS) : tK (tw_res x) = tK x := it_keep tK tw_res1_k _ _
theorem tw_res_D (x : TS) (hP : tP x) (h : tD x) : tD (tw_res x) := (it_inv (fun y => tP y ∧ tD y) ⟨hP, h⟩ (pd x) (fun i y _ q => ⟨q.1.k (tw_res1_k i y), tw_res1_D i y q.1 q.2⟩) _ (Nat.le_refl _)).2
theorem cf_X8_reserves : CF RX8 yX8_reserves cX8_reserves 2 none 0 := ⟨q2335, qs80, q150, q2336, by decide +kernel⟩
theorem mX8_reserves {Γ : Gm} {l : Launch} {G : Nat → Nat} {wB : Wd} {x : TS} {w : Wd} (hw : tW Γ G wB x w) (hP : tP x) : M0 Γ l yX8_reserves (ws_ yX8_reserves cX8_reserves 2 none) (rl 6 0 0) 0 0 [.ref (G 61)] w (fun r9 w9 => r9 = none ∧ tW Γ G wB (tw_res x) w9) := by
  refine M0.of (lv := [some (.ref (G 61)), none]) (by decide) (Nat.le_of_ble_eq_true rfl) 1 rfl rfl ?_
  intro X hX hR hl hG hnm
  subst hl; subst hG
  refine v_iconst hX dX8_reserves_0 li0 ?_
  refine v_istore_n (lv' := [_, _]) hX dX8_reserves_1 (Nat.le_of_ble_eq_true rfl) rfl rfl ?_
  refine loop_up (pd x) (fun i => ∀ w, tW (xG X) G wB ((it (tw_res1) (i) x)) w → V X w 0 0 2 [some (.ref (G 61)), some (.int (nI (i)))] []) ?_ ?_ 0 (Nat.zero_le _) w hw
  · intro w hw
    have hPc : tP (it (tw_res1) (pd x) x) := hP.k (it_keep tK tw_res1_k _ _)
    refine v_iload_n hX dX8_reserves_2 rfl ?_
    refine v_aload_n hX dX8_reserves_3 rfl ?_
    refine v_iconst hX dX8_reserves_4 li1 ?_
    refine tv_callR hX rfl dX8_reserves_5 q2229 cf_X8_get hw (mX8_get hw _ (gidx hPc (vin (by decide)))) rfl ⟨rfl, rfl⟩ ⟨Nat.le_of_ble_eq_true rfl, Nat.le_of_ble_eq_true rfl⟩ rfl (Nat.le_of_ble_eq_true rfl) ⟨Nat.le_of_ble_eq_true rfl, Nat.le_of_ble_eq_true rfl⟩ ?_
    refine v_icmp_ge_t (tgt := 36) hX dX8_reserves_8 rfl (ge_x ((tG_k (it_keep tK tw_res1_k (pd x) (x)) 1).trans hP.2.2.2.1.2.2) rfl) ?_
    exact v_vret hX dX8_reserves_36 hR (Nat.le_of_ble_eq_true rfl) (Nat.le_of_ble_eq_true rfl) (⟨rfl, hw⟩)
  · intro i hi ih w hw
    have ih : ∀ w, tW (xG X) G wB (((tw_res1) i (it (tw_res1) (i) x))) w → V X w 0 0 2 [some (.ref (G 61)), some (.int (nI (i + 1)))] [] := ih
    have hPy : tP (it (tw_res1) i x) := hP.k (it_keep tK tw_res1_k (i) (x))
    have hg : tG (it (tw_res1) i x) 1 = nI (pd x) := ((tG_k (it_keep tK tw_res1_k (i) (x)) 1).trans hP.2.2.2.1.2.2)
    have hny : pn (it (tw_res1) i x) = pn x := pn_k (it_keep tK tw_res1_k (i) (x))
    have hPc := hPy
    generalize (it (tw_res1) (i) x) = y at hw ih hPy hg hny hPc
    refine v_iload_n hX dX8_reserves_2 rfl ?_
    refine v_aload_n hX dX8_reserves_3 rfl ?_
    refine v_iconst hX dX8_reserves_4 li1 ?_
    refine tv_callR hX rfl dX8_reserves_5 q2229 cf_X8_get hw (mX8_get hw _ (gidx hPc (vin (by decide)))) rfl ⟨rfl, rfl⟩ ⟨Nat.le_of_ble_eq_true rfl, Nat.le_of_ble_eq_true rfl⟩ rfl (Nat.le_of_ble_eq_true rfl) ⟨Nat.le_of_ble_eq_true rfl, Nat.le_of_ble_eq_true rfl⟩ ?_
    refine v_icmp_ge_f (tgt := 36) hX dX8_reserves_8 rfl (ge_s hg hi (Nat.le_trans hP.2.2.2.1.2.1 (by decide))) ?_
    refine v_aload_n hX dX8_reserves_11 rfl ?_
    refine v_iload_n hX dX8_reserves_12 rfl ?_
    refine tv_callR hX rfl dX8_reserves_13 q2337 cf_X8_isFreeDeck hw (mX8_isFreeDeck hw _ (vnI (Nat.lt_of_lt_of_le hi hP.2.2.2.1.2.1) (by decide))) rfl ⟨rfl, rfl⟩ ⟨Nat.le_of_ble_eq_true rfl, Nat.le_of_ble_eq_true rfl⟩ rfl (Nat.le_of_ble_eq_true rfl) ⟨Nat.le_of_ble_eq_true rfl, Nat.le_of_ble_eq_true rfl⟩ ?_
    refine v_ifb_eq (tgt := 30) hX dX8_reserves_16 rfl (fun c_16 => ?_) (fun c_16 => ?_)
    · refine v_iinc (lv' := [_, _]) hX dX8_reserves_30 rfl li1 rfl rfl ?_
      refine v_goto (tgt := 2) hX dX8_reserves_33 rfl ?_
      exact V.at rfl (by rw [nI_1]) rfl (ih w (hw.to (by first | (rw [tw_res1, if_neg c_16]; done) | (rw [tw_res1, if_neg c_16]; rfl))))
    · refine v_aload_n hX dX8_reserves_19 rfl ?_
      refine tv_getA hX dX8_reserves_20 hw 47 (by decide) rfl q1956 ?_
      refine v_iload_n hX dX8_reserves_23 rfl ?_
      refine v_aload_n hX dX8_reserves_24 rfl ?_
      refine v_iload_n hX dX8_reserves_25 rfl ?_
      refine tv_callR hX rfl dX8_reserves_26 q2341 cf_X8_bestFor hw (mX8_bestFor hw hPy _ (vnI (Nat.lt_of_lt_of_le hi hP.2.2.2.1.2.1) (by decide))) rfl ⟨rfl, rfl⟩ ⟨Nat.le_of_ble_eq_true rfl, Nat.le_of_ble_eq_true rfl⟩ rfl (Nat.le_of_ble_eq_true rfl) ⟨Nat.le_of_ble_eq_true rfl, Nat.le_of_ble_eq_true rfl⟩ ?_
      refine tv_iast hX dX8_reserves_29 hw (by decide) rfl rfl (vnI (Nat.lt_of_lt_of_le hi hP.2.2.2.1.2.1) (by decide)) (fun w hw => ?_)
      refine v_iinc (lv' := [_, _]) hX dX8_reserves_30 rfl li1 rfl rfl ?_
      refine v_goto (tgt := 2) hX dX8_reserves_33 rfl ?_
      exact V.at rfl (by rw [nI_1]) rfl (ih w (hw.to (by first | (rw [tw_res1, if_pos c_16]; done) | (rw [tw_res1, if_pos c_16]; rfl))))
def tw_bakU (t : Int32) (d b : Int32) (x : TS) : TS :=
  (fun x => tU x 42 b (tA x 33 b)) (tU (tU (tU ((fun x => tU x 49 d (t + tA x 10 (tB x b 0))) (tU (tU x 47 d (-1)) 48 d b)) 32 b 4) 37 b d) 38 b t)
def tw_bak1 (t : Int32) (d : Nat) (x : TS) : TS := if tA x 47 (nI d) = -1 then x else if tA x 50 (nI d) = tA x 11 (tB x (tA x 47 (nI d)) 0) then if tw_ripe x (tA x 47 (nI d)) ≤ tA x 33 (tA x 47 (nI d)) then tw_bakU t (nI d) (tA x 47 (nI d)) x else x else x
theorem tw_bak1_k (t : Int32) (i : Nat) (y : TS) : tK (tw_bak1 t i y) = tK y := by
  unfold tw_bak1 tw_bakU; repeat' split
  all_goals simp (disch := decide) only [tK_u]
theorem tw_bak1_D (t : Int32) (i : Nat) (hi : i < 4) (y : TS) (h : tD y) : tD (tw_bak1 t i y) := by
  unfold tw_bak1 tw_bakU; repeat' split
  · exact h
  · rename_i c _ _
    have hb := (h.2.1 i hi).resolve_left c
    refine tD.u (tD.u (tD.u (tD.u (tD.u (tD.s48 (tD.s47 h (Or.inl rfl)) (Or.inr ?_)) (by decide)) (by decide)) (by decide)) (by decide)) (by decide)
    rw [pn_k (tK_u (by decide))]
    exact hb
  · exact h
  · exact h
def tw_bak (t : Int32) (x : TS) : TS := it (tw_bak1 t) (pd x) x
theorem tw_bak_k (t : Int32) (x : TS) : tK (tw_bak t x) = tK x := it_keep tK (tw_bak1_k t) _ _
theorem tw_bak_D (t : Int32) (x : TS) (hP : tP x) (h : tD x) : tD (tw_bak t x) := it_inv tD h _ (fun i y q => tw_bak1_D t i (lt_pd q hP) y) _ (Nat.le_refl _)
theorem cf_X8_beginsBaking : CF RX8 yX8_beginsBaking cX8_beginsBaking 4 none 1 := ⟨q2377, qs89, q150, q2378, by decide +kernel⟩
theorem mX8_beginsBaking {Γ : Gm} {l : Launch} {G : Nat → Nat} {wB : Wd} {x : TS} {w : Wd} (hw : tW Γ G wB x w) (hP : tP x) (hD : tD x) (t : Int32) : M0 Γ l yX8_beginsBaking (ws_ yX8_beginsBaking cX8_beginsBaking 4 none) (rl 4 0 0) 0 0 [.ref (G 61), .int t] w (fun r9 w9 => r9 = none ∧ tW Γ G wB (tw_bak t x) w9) := by
  refine M0.of (lv := [some (.ref (G 61)), some (.int t), none, none]) (by decide) (Nat.le_of_ble_eq_true rfl) 2 rfl rfl ?_
  intro X hX hR hl hG hnm
  subst hl; subst hG
  refine v_iconst hX dX8_beginsBaking_0 li0 ?_
  refine v_istore_n (lv' := [_, _, _, _]) hX dX8_beginsBaking_1 (Nat.le_of_ble_eq_true rfl) rfl rfl ?_
  refine V.no (lv' := [_, _, _, _]) 3 rfl ?_
  refine loop_up (pd x) (fun i => ∀ w, tW (xG X) G wB ((it (tw_bak1 t) (i) x)) w → V X w 0 0 2 [some (.ref (G 61)), some (.int t), some (.int (nI (i))), none] []) ?_ ?_ 0 (Nat.zero_le _) w hw
  · intro w hw
    have hPc : tP (it (tw_bak1 t) (pd x) x) := hP.k (it_keep tK (tw_bak1_k t) _ _)
    refine v_iload_n hX dX8_beginsBaking_2 rfl ?_
    refine v_aload_n hX dX8_beginsBaking_3 rfl ?_
    refine v_iconst hX dX8_beginsBaking_4 li1 ?_
    refine tv_callR hX rfl dX8_beginsBaking_5 q2229 cf_X8_get hw (mX8_get hw _ (gidx hPc (vin (by decide)))) rfl ⟨rfl, rfl⟩ ⟨Nat.le_of_ble_eq_true rfl, Nat.le_of_ble_eq_true rfl⟩ rfl (Nat.le_of_ble_eq_true rfl) ⟨Nat.le_of_ble_eq_true rfl, Nat.le_of_ble_eq_true rfl⟩ ?_
    refine v_icmp_ge_t (tgt := 124) hX dX8_beginsBaking_8 rfl (ge_x ((tG_k (it_keep tK (tw_bak1_k t) (pd x) (x)) 1).trans hP.2.2.2.1.2.2) rfl) ?_
    exact v_vret hX dX8_beginsBaking_124 hR (Nat.le_of_ble_eq_true rfl) (Nat.le_of_ble_eq_true rfl) (⟨rfl, hw⟩)
  · intro i hi ih w hw
    have ih : ∀ w, tW (xG X) G wB (((tw_bak1 t) i (it (tw_bak1 t) (i) x))) w → V X w 0 0 2 [some (.ref (G 61)), some (.int t), some (.int (nI (i + 1))), none] [] := ih
    have hPy : tP (it (tw_bak1 t) i x) := hP.k (it_keep tK (tw_bak1_k t) (i) (x))
    have hg : tG (it (tw_bak1 t) i x) 1 = nI (pd x) := ((tG_k (it_keep tK (tw_bak1_k t) (i) (x)) 1).trans hP.2.2.2.1.2.2)
    have hny : pn (it (tw_bak1 t) i x) = pn x := pn_k (it_keep tK (tw_bak1_k t) (i) (x))
    have hDy : tD (it (tw_bak1 t) i x) := it_inv tD hD (pd x) (fun i y q => tw_bak1_D t i (lt_pd q hP) y) i (Nat.le_of_lt hi)
    have hPc := hPy
    generalize (it (tw_bak1 t) (i) x) = y at hw ih hPy hg hny hDy hPc
    refine v_iload_n hX dX8_beginsBaking_2 rfl ?_
    refine v_aload_n hX dX8_beginsBaking_3 rfl ?_
    refine v_iconst hX dX8_beginsBaking_4 li1 ?_
    refine tv_callR hX rfl dX8_beginsBaking_5 q2229 cf_X8_get hw (mX8_get hw _ (gidx hPc (vin (by decide)))) rfl ⟨rfl, rfl⟩ ⟨Nat.le_of_ble_eq_true rfl, Nat.le_of_ble_eq_true rfl⟩ rfl (Nat.le_of_ble_eq_true rfl) ⟨Nat.le_of_ble_eq_true rfl, Nat.le_of_ble_eq_true rfl⟩ ?_
    refine v_icmp_ge_f (tgt := 124) hX dX8_beginsBaking_8 rfl (ge_s hg hi (Nat.le_trans hP.2.2.2.1.2.1 (by decide))) ?_
    refine v_aload_n hX dX8_beginsBaking_11 rfl ?_
    refine tv_getA hX dX8_beginsBaking_12 hw 47 (by decide) rfl q1956 ?_
    refine v_iload_n hX dX8_beginsBaking_15 rfl ?_
    refine tv_iald hX dX8_beginsBaking_16 hw (by decide) rfl rfl (vnI (Nat.lt_of_lt_of_le hi hP.2.2.2.1.2.1) (by decide)) ?_
    refine v_istore_n (lv' := [_, _, _, _]) hX dX8_beginsBaking_17 (Nat.le_of_ble_eq_true rfl) rfl rfl ?_
    refine v_iload_n hX dX8_beginsBaking_18 rfl ?_
    refine v_iconst hX dX8_beginsBaking_19 lim1 ?_
    refine v_icmp_eq (tgt := 118) hX dX8_beginsBaking_20 rfl (fun c_20 => ?_) (fun c_20 => ?_)
    · refine v_iinc (lv' := [_, _, _, _]) hX dX8_beginsBaking_118 rfl li1 rfl rfl ?_
      refine v_goto (tgt := 2) hX dX8_beginsBaking_121 rfl ?_
      refine V.no (lv' := [_, _, _, _]) 3 rfl ?_
      exact V.at rfl (by rw [nI_1]) rfl (ih w (hw.to (by first | (rw [tw_bak1, if_pos c_20]; done) | (rw [tw_bak1, if_pos c_20]; rfl))))
    · refine v_aload_n hX dX8_beginsBaking_23 rfl ?_
      refine tv_getA hX dX8_beginsBaking_24 hw 50 (by decide) rfl q1959 ?_
      refine v_iload_n hX dX8_beginsBaking_27 rfl ?_
      refine tv_iald hX dX8_beginsBaking_28 hw (by decide) rfl rfl (vnI (Nat.lt_of_lt_of_le hi hP.2.2.2.1.2.1) (by decide)) ?_
      refine v_aload_n hX dX8_beginsBaking_29 rfl ?_
      refine tv_getA hX dX8_beginsBaking_30 hw 11 (by decide) rfl q1920 ?_
      refine v_aload_n hX dX8_beginsBaking_33 rfl ?_
      refine v_iload_n hX dX8_beginsBaking_34 rfl ?_
      refine tv_callR hX rfl dX8_beginsBaking_35 q2325 cf_X8_productOfBatch hw (mX8_productOfBatch hw hPy _ ((hDy.2.1 i (lt_pd hi hP)).resolve_left c_20)) rfl ⟨rfl, rfl⟩ ⟨Nat.le_of_ble_eq_true rfl, Nat.le_of_ble_eq_true rfl⟩ rfl (Nat.le_of_ble_eq_true rfl) ⟨Nat.le_of_ble_eq_true rfl, Nat.le_of_ble_eq_true rfl⟩ ?_
      refine tv_iald hX dX8_beginsBaking_38 hw (by decide) rfl rfl (bprod hPy ((hDy.2.1 i (lt_pd hi hP)).resolve_left c_20)) ?_
      refine v_icmp_ne (tgt := 118) hX dX8_beginsBaking_39 rfl (fun c_39 => ?_) (fun c_39 => ?_)
      · refine v_iinc (lv' := [_, _, _, _]) hX dX8_beginsBaking_118 rfl li1 rfl rfl ?_
        refine v_goto (tgt := 2) hX dX8_beginsBaking_121 rfl ?_
        refine V.no (lv' := [_, _, _, _]) 3 rfl ?_
        exact V.at rfl (by rw [nI_1]) rfl (ih w (hw.to (by first | (rw [tw_bak1, if_neg c_20, if_neg c_39]; done) | (rw [tw_bak1, if_neg c_20, if_neg c_39]; rfl))))
      · refine v_aload_n hX dX8_beginsBaking_42 rfl ?_
        refine v_iload_n hX dX8_beginsBaking_43 rfl ?_
        refine tv_callR hX rfl dX8_beginsBaking_44 q2353 cf_X8_isRipe hw (mX8_isRipe hw hPy _ ((hDy.2.1 i (lt_pd hi hP)).resolve_left c_20)) rfl ⟨rfl, rfl⟩ ⟨Nat.le_of_ble_eq_true rfl, Nat.le_of_ble_eq_true rfl⟩ rfl (Nat.le_of_ble_eq_true rfl) ⟨Nat.le_of_ble_eq_true rfl, Nat.le_of_ble_eq_true rfl⟩ ?_
        refine v_ifb_ne (tgt := 53) hX dX8_beginsBaking_47 rfl (fun c_47 => ?_) (fun c_47 => ?_)
        · refine v_aload_n hX dX8_beginsBaking_53 rfl ?_
          refine tv_getA hX dX8_beginsBaking_54 hw 47 (by decide) rfl q1956 ?_
          refine v_iload_n hX dX8_beginsBaking_57 rfl ?_
          refine v_iconst hX dX8_beginsBaking_58 lim1 ?_
          refine tv_iast hX dX8_beginsBaking_59 hw (by decide) rfl rfl (vnI (Nat.lt_of_lt_of_le hi hP.2.2.2.1.2.1) (by decide)) (fun w hw => ?_)
          refine v_aload_n hX dX8_beginsBaking_60 rfl ?_
          refine tv_getA hX dX8_beginsBaking_61 hw 48 (by decide) rfl q1957 ?_
          refine v_iload_n hX dX8_beginsBaking_64 rfl ?_
          refine v_iload_n hX dX8_beginsBaking_65 rfl ?_
          refine tv_iast hX dX8_beginsBaking_66 hw (by decide) rfl rfl (vnI (Nat.lt_of_lt_of_le hi hP.2.2.2.1.2.1) (by decide)) (fun w hw => ?_)
          refine v_aload_n hX dX8_beginsBaking_67 rfl ?_
          refine tv_getA hX dX8_beginsBaking_68 hw 49 (by decide) rfl q1958 ?_
          refine v_iload_n hX dX8_beginsBaking_71 rfl ?_
          refine v_iload_n hX dX8_beginsBaking_72 rfl ?_
          refine v_aload_n hX dX8_beginsBaking_73 rfl ?_
          refine tv_getA hX dX8_beginsBaking_74 hw 10 (by decide) rfl q1919 ?_
          refine v_aload_n hX dX8_beginsBaking_77 rfl ?_
          refine v_iload_n hX dX8_beginsBaking_78 rfl ?_
          refine tv_callR hX rfl dX8_beginsBaking_79 q2325 cf_X8_productOfBatch hw (mX8_productOfBatch hw (hPy.k (by simp (disch := decide) only [tK_u])) _ (vp_pn (by simp (disch := decide) only [tK_u]) ((hDy.2.1 i (lt_pd hi hP)).resolve_left c_20))) rfl ⟨rfl, rfl⟩ ⟨Nat.le_of_ble_eq_true rfl, Nat.le_of_ble_eq_true rfl⟩ rfl (Nat.le_of_ble_eq_true rfl) ⟨Nat.le_of_ble_eq_true rfl, Nat.le_of_ble_eq_true rfl⟩ ?_
          refine tv_iald hX dX8_beginsBaking_82 hw (by decide) rfl rfl (bprod (hPy.k (by simp (disch := decide) only [tK_u])) (vp_pn (by simp (disch := decide) only [tK_u]) ((hDy.2.1 i (lt_pd hi hP)).resolve_left c_20))) ?_
          refine v_iadd hX dX8_beginsBaking_83 ?_
          refine tv_iast hX dX8_beginsBaking_84 hw (by decide) rfl rfl (vnI (Nat.lt_of_lt_of_le hi hP.2.2.2.1.2.1) (by decide)) (fun w hw => ?_)
          refine v_aload_n hX dX8_beginsBaking_85 rfl ?_
          refine tv_getA hX dX8_beginsBaking_86 hw 32 (by decide) rfl q1941 ?_
          refine v_iload_n hX dX8_beginsBaking_89 rfl ?_
          refine v_iconst hX dX8_beginsBaking_90 li4 ?_
          refine tv_iast hX dX8_beginsBaking_91 hw (by decide) rfl rfl (b20 hPy ((hDy.2.1 i (lt_pd hi hP)).resolve_left c_20)) (fun w hw => ?_)
          refine v_aload_n hX dX8_beginsBaking_92 rfl ?_
          refine tv_getA hX dX8_beginsBaking_93 hw 37 (by decide) rfl q1946 ?_
          refine v_iload_n hX dX8_beginsBaking_96 rfl ?_
          refine v_iload_n hX dX8_beginsBaking_97 rfl ?_
          refine tv_iast hX dX8_beginsBaking_98 hw (by decide) rfl rfl (b20 hPy ((hDy.2.1 i (lt_pd hi hP)).resolve_left c_20)) (fun w hw => ?_)
          refine v_aload_n hX dX8_beginsBaking_99 rfl ?_
          refine tv_getA hX dX8_beginsBaking_100 hw 38 (by decide) rfl q1947 ?_
          refine v_iload_n hX dX8_beginsBaking_103 rfl ?_
          refine v_iload_n hX dX8_beginsBaking_104 rfl ?_
          refine tv_iast hX dX8_beginsBaking_105 hw (by decide) rfl rfl (b20 hPy ((hDy.2.1 i (lt_pd hi hP)).resolve_left c_20)) (fun w hw => ?_)
          refine v_aload_n hX dX8_beginsBaking_106 rfl ?_
          refine tv_getA hX dX8_beginsBaking_107 hw 42 (by decide) rfl q1951 ?_
          refine v_iload_n hX dX8_beginsBaking_110 rfl ?_
          refine v_aload_n hX dX8_beginsBaking_111 rfl ?_
          refine tv_getA hX dX8_beginsBaking_112 hw 33 (by decide) rfl q1942 ?_
          refine v_iload_n hX dX8_beginsBaking_115 rfl ?_
          refine tv_iald hX dX8_beginsBaking_116 hw (by decide) rfl rfl (b20 hPy ((hDy.2.1 i (lt_pd hi hP)).resolve_left c_20)) ?_
          refine tv_iast hX dX8_beginsBaking_117 hw (by decide) rfl rfl (b20 hPy ((hDy.2.1 i (lt_pd hi hP)).resolve_left c_20)) (fun w hw => ?_)
          refine v_iinc (lv' := [_, _, _, _]) hX dX8_beginsBaking_118 rfl li1 rfl rfl ?_
          refine v_goto (tgt := 2) hX dX8_beginsBaking_121 rfl ?_
          refine V.no (lv' := [_, _, _, _]) 3 rfl ?_
          exact V.at rfl (by rw [nI_1]) rfl (ih w (hw.to (by first | (rw [tw_bak1, if_neg c_20, if_pos c_39, if_pos c_47]; done) | (rw [tw_bak1, if_neg c_20, if_pos c_39, if_pos c_47]; rfl))))
        · refine v_goto (tgt := 118) hX dX8_beginsBaking_50 rfl ?_
          refine v_iinc (lv' := [_, _, _, _]) hX dX8_beginsBaking_118 rfl li1 rfl rfl ?_
          refine v_goto (tgt := 2) hX dX8_beginsBaking_121 rfl ?_
          refine V.no (lv' := [_, _, _, _]) 3 rfl ?_
          exact V.at rfl (by rw [nI_1]) rfl (ih w (hw.to (by first | (rw [tw_bak1, if_neg c_20, if_pos c_39, if_neg c_47]; done) | (rw [tw_bak1, if_neg c_20, if_pos c_39, if_neg c_47]; rfl))))
def tw_she1 (b : Nat) (s : TS × Int32) : TS × Int32 := if tG s.1 2 ≤ s.2 then s else if tA s.1 32 (nI b) = 2 then if tw_ripe s.1 (nI b) ≤ tA s.1 33 (nI b) then (tU s.1 32 (nI b) 3, s.2 + 1) else s else s
theorem tw_she1_k (i : Nat) (s : TS × Int32) : tK (tw_she1 i s).1 = tK s.1 := by
  unfold tw_she1; repeat' split
  all_goals simp (disch := decide) only [tK_u]
theorem tw_she1_D (i : Nat) (s : TS × Int32) (h : tD s.1) : tD (tw_she1 i s).1 := by
  unfold tw_she1; repeat' split
  all_goals first | exact h | exact h.u (by decide)
def tw_she (x : TS) : TS := (it tw_she1 (pn x) (x, ct (fun b => tA x 32 (nI b) = 3) (pn x))).1
theorem tw_she_k (x : TS) : tK (tw_she x) = tK x := it_keep (fun s : TS × Int32 => tK s.1) tw_she1_k _ _
theorem tw_she_D (x : TS) (h : tD x) : tD (tw_she x) := it_inv (fun s : TS × Int32 => tD s.1) h _ (fun i s _ => tw_she1_D i s) _ (Nat.le_refl _)
theorem cf_X8_shelves : CF RX8 yX8_shelves cX8_shelves 3 none 0 := ⟨q2381, qs90, q150, q2382, by decide +kernel⟩
theorem mX8_shelves {Γ : Gm} {l : Launch} {G : Nat → Nat} {wB : Wd} {x : TS} {w : Wd} (hw : tW Γ G wB x w) (hP : tP x) : M0 Γ l yX8_shelves (ws_ yX8_shelves cX8_shelves 3 none) (rl 4 0 0) 0 0 [.ref (G 61)] w (fun r9 w9 => r9 = none ∧ tW Γ G wB (tw_she x) w9) := by
  refine M0.of (lv := [some (.ref (G 61)), none, none]) (by decide) (Nat.le_of_ble_eq_true rfl) 2 rfl rfl ?_
  intro X hX hR hl hG hnm
  subst hl; subst hG
  refine v_aload_n hX dX8_shelves_0 rfl ?_
  refine v_iconst hX dX8_shelves_1 li3 ?_
  refine tv_callR hX rfl dX8_shelves_2 q2383 cf_X8_manyAt hw (mX8_manyAt hw hP _) rfl ⟨rfl, rfl⟩ ⟨Nat.le_of_ble_eq_true rfl, Nat.le_of_ble_eq_true rfl⟩ rfl (Nat.le_of_ble_eq_true rfl) ⟨Nat.le_of_ble_eq_true rfl, Nat.le_of_ble_eq_true rfl⟩ ?_
  refine v_istore_n (lv' := [_, _, _]) hX dX8_shelves_5 (Nat.le_of_ble_eq_true rfl) rfl rfl ?_
  refine v_iconst hX dX8_shelves_6 li0 ?_
  refine v_istore_n (lv' := [_, _, _]) hX dX8_shelves_7 (Nat.le_of_ble_eq_true rfl) rfl rfl ?_
  refine loop_up (pn x) (fun i => ∀ w, tW (xG X) G wB ((it (tw_she1) (i) (x, ct (fun b => tA x 32 (nI b) = 3) (pn x))).1) w → V X w 0 0 8 [some (.ref (G 61)), some (.int (it (tw_she1) (i) (x, ct (fun b => tA x 32 (nI b) = 3) (pn x))).2), some (.int (nI (i)))] []) ?_ ?_ 0 (Nat.zero_le _) w hw
  · intro w hw
    have hPc : tP (it tw_she1 (pn x) (x, ct (fun b => tA x 32 (nI b) = 3) (pn x))).1 := hP.k (it_keep (fun s : TS × Int32 => tK s.1) tw_she1_k (pn x) (x, ct (fun b => tA x 32 (nI b) = 3) (pn x)))
    refine v_iload_n hX dX8_shelves_8 rfl ?_
    refine v_aload_n hX dX8_shelves_9 rfl ?_
    refine tv_callR hX rfl dX8_shelves_10 q2225 cf_X8_many hw (mX8_many hw hPc) rfl ⟨rfl, rfl⟩ ⟨Nat.le_of_ble_eq_true rfl, Nat.le_of_ble_eq_true rfl⟩ rfl (Nat.le_of_ble_eq_true rfl) ⟨Nat.le_of_ble_eq_true rfl, Nat.le_of_ble_eq_true rfl⟩ ?_
    refine v_icmp_ge_t (tgt := 62) hX dX8_shelves_13 rfl (ge_x ((tG_k (it_keep (fun s : TS × Int32 => tK s.1) tw_she1_k (pn x) (x, ct (fun b => tA x 32 (nI b) = 3) (pn x))) 8).trans hP.2.1.2) rfl) ?_
    exact v_vret hX dX8_shelves_62 hR (Nat.le_of_ble_eq_true rfl) (Nat.le_of_ble_eq_true rfl) (⟨rfl, hw⟩)
  · intro i hi ih w hw
    have ih : ∀ w, tW (xG X) G wB (((tw_she1) i (it (tw_she1) (i) (x, ct (fun b => tA x 32 (nI b) = 3) (pn x)))).1) w → V X w 0 0 8 [some (.ref (G 61)), some (.int ((tw_she1) i (it (tw_she1) (i) (x, ct (fun b => tA x 32 (nI b) = 3) (pn x)))).2), some (.int (nI (i + 1)))] [] := ih
    have hPc : tP (it tw_she1 i (x, ct (fun b => tA x 32 (nI b) = 3) (pn x))).1 := hP.k (it_keep (fun s : TS × Int32 => tK s.1) tw_she1_k (i) (x, ct (fun b => tA x 32 (nI b) = 3) (pn x)))
    have hg : tG (it tw_she1 i (x, ct (fun b => tA x 32 (nI b) = 3) (pn x))).1 8 = nI (pn x) := (tG_k (it_keep (fun s : TS × Int32 => tK s.1) tw_she1_k (i) (x, ct (fun b => tA x 32 (nI b) = 3) (pn x))) 8).trans hP.2.1.2
    have hny : pn (it tw_she1 i (x, ct (fun b => tA x 32 (nI b) = 3) (pn x))).1 = pn x := pn_k (it_keep (fun s : TS × Int32 => tK s.1) tw_she1_k (i) (x, ct (fun b => tA x 32 (nI b) = 3) (pn x)))
    have hst : tG (it tw_she1 i (x, ct (fun b => tA x 32 (nI b) = 3) (pn x))).1 2 ≤ (it tw_she1 i (x, ct (fun b => tA x 32 (nI b) = 3) (pn x))).2 → it tw_she1 (pn x) (x, ct (fun b => tA x 32 (nI b) = 3) (pn x)) = it tw_she1 i (x, ct (fun b => tA x 32 (nI b) = 3) (pn x)) := fun q => it_stuck (Nat.le_of_lt hi) (fun j => if_pos q)
    generalize (it (tw_she1) (i) (x, ct (fun b => tA x 32 (nI b) = 3) (pn x))) = y at hw ih hPc hg hny hst
    refine v_iload_n hX dX8_shelves_8 rfl ?_
    refine v_aload_n hX dX8_shelves_9 rfl ?_
    refine tv_callR hX rfl dX8_shelves_10 q2225 cf_X8_many hw (mX8_many hw hPc) rfl ⟨rfl, rfl⟩ ⟨Nat.le_of_ble_eq_true rfl, Nat.le_of_ble_eq_true rfl⟩ rfl (Nat.le_of_ble_eq_true rfl) ⟨Nat.le_of_ble_eq_true rfl, Nat.le_of_ble_eq_true rfl⟩ ?_
    refine v_icmp_ge_f (tgt := 62) hX dX8_shelves_13 rfl (ge_s hg hi (Nat.le_trans hP.2.1.1 (by decide))) ?_
    refine v_iload_n hX dX8_shelves_16 rfl ?_
    refine v_aload_n hX dX8_shelves_17 rfl ?_
    refine v_iconst hX dX8_shelves_18 li2 ?_
    refine tv_callR hX rfl dX8_shelves_19 q2229 cf_X8_get hw (mX8_get hw _ (gidx hPc (vin (by decide)))) rfl ⟨rfl, rfl⟩ ⟨Nat.le_of_ble_eq_true rfl, Nat.le_of_ble_eq_true rfl⟩ rfl (Nat.le_of_ble_eq_true rfl) ⟨Nat.le_of_ble_eq_true rfl, Nat.le_of_ble_eq_true rfl⟩ ?_
    refine v_icmp_ge (tgt := 62) hX dX8_shelves_22 rfl (fun c_22 => ?_) (fun c_22 => ?_)
    · exact v_vret hX dX8_shelves_62 hR (Nat.le_of_ble_eq_true rfl) (Nat.le_of_ble_eq_true rfl) (⟨rfl, hw.to (congrArg Prod.fst (hst c_22))⟩)
    · refine v_aload_n hX dX8_shelves_25 rfl ?_
      refine tv_getA hX dX8_shelves_26 hw 32 (by decide) rfl q1941 ?_
      refine v_iload_n hX dX8_shelves_29 rfl ?_
      refine tv_iald hX dX8_shelves_30 hw (by decide) rfl rfl (vnI (Nat.lt_of_lt_of_le hi hP.2.1.1) (by decide)) ?_
      refine v_iconst hX dX8_shelves_31 li2 ?_
      refine v_icmp_ne (tgt := 56) hX dX8_shelves_32 rfl (fun c_32 => ?_) (fun c_32 => ?_)
      · refine v_iinc (lv' := [_, _, _]) hX dX8_shelves_56 rfl li1 rfl rfl ?_
        refine v_goto (tgt := 8) hX dX8_shelves_59 rfl ?_
        exact V.at rfl (by rw [nI_1, tw_she1, if_neg c_22, if_neg c_32]) rfl (ih w (hw.to (by first | (rw [tw_she1, if_neg c_22, if_neg c_32]; done) | (rw [tw_she1, if_neg c_22, if_neg c_32]; rfl))))
      · refine v_aload_n hX dX8_shelves_35 rfl ?_
        refine v_iload_n hX dX8_shelves_36 rfl ?_
        refine tv_callR hX rfl dX8_shelves_37 q2353 cf_X8_isRipe hw (mX8_isRipe hw hPc _ (lt_pn hi hny hP)) rfl ⟨rfl, rfl⟩ ⟨Nat.le_of_ble_eq_true rfl, Nat.le_of_ble_eq_true rfl⟩ rfl (Nat.le_of_ble_eq_true rfl) ⟨Nat.le_of_ble_eq_true rfl, Nat.le_of_ble_eq_true rfl⟩ ?_
        refine v_ifb_ne (tgt := 46) hX dX8_shelves_40 rfl (fun c_40 => ?_) (fun c_40 => ?_)
        · refine v_aload_n hX dX8_shelves_46 rfl ?_
          refine tv_getA hX dX8_shelves_47 hw 32 (by decide) rfl q1941 ?_
          refine v_iload_n hX dX8_shelves_50 rfl ?_
          refine v_iconst hX dX8_shelves_51 li3 ?_
          refine tv_iast hX dX8_shelves_52 hw (by decide) rfl rfl (vnI (Nat.lt_of_lt_of_le hi hP.2.1.1) (by decide)) (fun w hw => ?_)
          refine v_iinc (lv' := [_, _, _]) hX dX8_shelves_53 rfl li1 rfl rfl ?_
          refine v_iinc (lv' := [_, _, _]) hX dX8_shelves_56 rfl li1 rfl rfl ?_
          refine v_goto (tgt := 8) hX dX8_shelves_59 rfl ?_
          exact V.at rfl (by rw [nI_1, tw_she1, if_neg c_22, if_pos c_32, if_pos c_40]) rfl (ih w (hw.to (by first | (rw [tw_she1, if_neg c_22, if_pos c_32, if_pos c_40]; done) | (rw [tw_she1, if_neg c_22, if_pos c_32, if_pos c_40]; rfl))))
        · refine v_goto (tgt := 56) hX dX8_shelves_43 rfl ?_
          refine v_iinc (lv' := [_, _, _]) hX dX8_shelves_56 rfl li1 rfl rfl ?_
          refine v_goto (tgt := 8) hX dX8_shelves_59 rfl ?_
          exact V.at rfl (by rw [nI_1, tw_she1, if_neg c_22, if_pos c_32, if_neg c_40]) rfl (ih w (hw.to (by first | (rw [tw_she1, if_neg c_22, if_pos c_32, if_neg c_40]; done) | (rw [tw_she1, if_neg c_22, if_pos c_32, if_neg c_40]; rfl))))
def tw_mixD (m b p f : Int32) (x : TS) : TS :=
  tU (tU (tU ((fun x => tU x 44 m (f + tA x 7 p)) (tU ((fun x => tU x 46 m (tA x 46 m + 1)) (tU x 45 m (tA x 6 p))) 43 m b)) 32 b 1) 34 b m) 35 b f
def tw_mixB (t m b : Int32) (x : TS) : TS := if tA x 45 m = -1 then tw_mixD m b (tB x b 0) t x else if tA x 45 m = tA x 6 (tB x b 0) then tw_mixD m b (tB x b 0) t x else tw_mixD m b (tB x b 0) (t + tG (sI x 52 (x.1 52 + 1)) 3) (sI x 52 (x.1 52 + 1))
def tw_next (t : Int32) (x : TS) : Int32 := ff (fun b => tA x 32 (nI b) = 0 ∧ ¬ t < tB x (nI b) 1) (pn x)
def tw_mix1 (t : Int32) (m : Nat) (x : TS) : TS := if tA x 43 (nI m) = -1 then if tw_next t x = -1 then x else tw_mixB t (nI m) (tw_next t x) x else x
theorem ff_ok {p : Nat → Prop} [DecidablePred p] {n : Nat} (hn : n ≤ 100000) : ff p n = -1 ∨ vp_in (ff p n) n := by
  induction n with
  | zero => exact Or.inl rfl
  | succ n ih =>
    rw [ff]
    split
    · split
      · exact Or.inr (vnI (by omega) hn)
      · exact Or.inl rfl
    · exact (ih (by omega)).imp_right (fun q => vmono q (by omega))
theorem tw_next_ok {t : Int32} {x : TS} (hP : tP x) : tw_next t x = -1 ∨ vp_in (tw_next t x) (pn x) := ff_ok (Nat.le_trans hP.2.1.1 (by decide))
theorem tw_mix1_k (t : Int32) (i : Nat) (y : TS) : tK (tw_mix1 t i y) = tK y := by
  unfold tw_mix1 tw_mixB tw_mixD; repeat' split
  all_goals simp (disch := decide) only [tK_u, tK_sI]
theorem tw_mixD_D {m b p f : Int32} {x : TS} (h : tD x) (hb : vp_in b (pn x)) : tD (tw_mixD m b p f x) := by
  unfold tw_mixD
  refine tD.u (tD.u (tD.u (tD.u (tD.s43 (tD.u (tD.u h (by decide)) (by decide)) (Or.inr ?_)) (by decide)) (by decide)) (by decide)) (by decide)
  exact vp_pn (by simp (disch := decide) only [tK_u]) hb
theorem tw_mix1_D (t : Int32) (i : Nat) (y : TS) (hP : tP y) (h : tD y) : tD (tw_mix1 t i y) := by
  unfold tw_mix1 tw_mixB; repeat' split
  · exact h
  · rename_i c _
    exact tw_mixD_D h ((tw_next_ok hP).resolve_left c)
  · rename_i c _ _
    exact tw_mixD_D h ((tw_next_ok hP).resolve_left c)
  · rename_i c _ _
    refine tw_mixD_D (h.si (by decide)) ?_
    rw [pn_k (tK_sI (by decide))]
    exact (tw_next_ok hP).resolve_left c
  · exact h
def tw_mix (t : Int32) (x : TS) : TS := it (tw_mix1 t) (pm x) x
theorem tw_mix_k (t : Int32) (x : TS) : tK (tw_mix t x) = tK x := it_keep tK (tw_mix1_k t) _ _
theorem tw_mix_D (t : Int32) (x : TS) (hP : tP x) (h : tD x) : tD (tw_mix t x) := (it_inv (fun y => tP y ∧ tD y) ⟨hP, h⟩ (pm x) (fun i y _ q => ⟨q.1.k (tw_mix1_k t i y), tw_mix1_D t i y q.1 q.2⟩) _ (Nat.le_refl _)).2
theorem cf_X8_beginsMixing : CF RX8 yX8_beginsMixing cX8_beginsMixing 7 none 1 := ⟨q2389, qs92, q150, q2390, by decide +kernel⟩
theorem mX8_beginsMixing {Γ : Gm} {l : Launch} {G : Nat → Nat} {wB : Wd} {x : TS} {w : Wd} (hw : tW Γ G wB x w) (hP : tP x) (t : Int32) : M0 Γ l yX8_beginsMixing (ws_ yX8_beginsMixing cX8_beginsMixing 7 none) (rl 3 0 0) 0 0 [.ref (G 61), .int t] w (fun r9 w9 => r9 = none ∧ tW Γ G wB (tw_mix t x) w9) := by
  refine M0.of (lv := [some (.ref (G 61)), some (.int t), none, none, none, none, none]) (by decide) (Nat.le_of_ble_eq_true rfl) 5 rfl rfl ?_
  intro X hX hR hl hG hnm
  subst hl; subst hG
  refine v_iconst hX dX8_beginsMixing_0 li0 ?_
  refine v_istore_n (lv' := [_, _, _, _, _, _, _]) hX dX8_beginsMixing_1 (Nat.le_of_ble_eq_true rfl) rfl rfl ?_
  refine V.no (lv' := [_, _, _, _, _, _, _]) 3 rfl ?_
  refine V.no (lv' := [_, _, _, _, _, _, _]) 4 rfl ?_
  refine V.no (lv' := [_, _, _, _, _, _, _]) 5 rfl ?_
  refine V.no (lv' := [_, _, _, _, _, _, _]) 6 rfl ?_
  refine loop_up (pm x) (fun i => ∀ w, tW (xG X) G wB ((it (tw_mix1 t) (i) x)) w → V X w 0 0 2 [some (.ref (G 61)), some (.int t), some (.int (nI (i))), none, none, none, none] []) ?_ ?_ 0 (Nat.zero_le _) w hw
  · intro w hw
    have hPc : tP (it (tw_mix1 t) (pm x) x) := hP.k (it_keep tK (tw_mix1_k t) _ _)
    refine v_iload_n hX dX8_beginsMixing_2 rfl ?_
    refine v_aload_n hX dX8_beginsMixing_3 rfl ?_
    refine v_iconst hX dX8_beginsMixing_4 li0 ?_
    refine tv_callR hX rfl dX8_beginsMixing_5 q2229 cf_X8_get hw (mX8_get hw _ (gidx hPc (vin (by decide)))) rfl ⟨rfl, rfl⟩ ⟨Nat.le_of_ble_eq_true rfl, Nat.le_of_ble_eq_true rfl⟩ rfl (Nat.le_of_ble_eq_true rfl) ⟨Nat.le_of_ble_eq_true rfl, Nat.le_of_ble_eq_true rfl⟩ ?_
    refine v_icmp_ge_t (tgt := 186) hX dX8_beginsMixing_8 rfl (ge_x ((tG_k (it_keep tK (tw_mix1_k t) (pm x) (x)) 0).trans hP.2.2.1.2.2) rfl) ?_
    exact v_vret hX dX8_beginsMixing_186 hR (Nat.le_of_ble_eq_true rfl) (Nat.le_of_ble_eq_true rfl) (⟨rfl, hw⟩)
  · intro i hi ih w hw
    have ih : ∀ w, tW (xG X) G wB (((tw_mix1 t) i (it (tw_mix1 t) (i) x))) w → V X w 0 0 2 [some (.ref (G 61)), some (.int t), some (.int (nI (i + 1))), none, none, none, none] [] := ih
    have hPy : tP (it (tw_mix1 t) i x) := hP.k (it_keep tK (tw_mix1_k t) (i) (x))
    have hg : tG (it (tw_mix1 t) i x) 0 = nI (pm x) := ((tG_k (it_keep tK (tw_mix1_k t) (i) (x)) 0).trans hP.2.2.1.2.2)
    have hny : pn (it (tw_mix1 t) i x) = pn x := pn_k (it_keep tK (tw_mix1_k t) (i) (x))
    have hPc := hPy
    generalize (it (tw_mix1 t) (i) x) = y at hw ih hPy hg hny hPc
    refine v_iload_n hX dX8_beginsMixing_2 rfl ?_
    refine v_aload_n hX dX8_beginsMixing_3 rfl ?_
    refine v_iconst hX dX8_beginsMixing_4 li0 ?_
    refine tv_callR hX rfl dX8_beginsMixing_5 q2229 cf_X8_get hw (mX8_get hw _ (gidx hPc (vin (by decide)))) rfl ⟨rfl, rfl⟩ ⟨Nat.le_of_ble_eq_true rfl, Nat.le_of_ble_eq_true rfl⟩ rfl (Nat.le_of_ble_eq_true rfl) ⟨Nat.le_of_ble_eq_true rfl, Nat.le_of_ble_eq_true rfl⟩ ?_
    refine v_icmp_ge_f (tgt := 186) hX dX8_beginsMixing_8 rfl (ge_s hg hi (Nat.le_trans hP.2.2.1.2.1 (by decide))) ?_
    refine v_aload_n hX dX8_beginsMixing_11 rfl ?_
    refine tv_getA hX dX8_beginsMixing_12 hw 43 (by decide) rfl q1952 ?_
    refine v_iload_n hX dX8_beginsMixing_15 rfl ?_
    refine tv_iald hX dX8_beginsMixing_16 hw (by decide) rfl rfl (vnI (Nat.lt_of_lt_of_le hi hP.2.2.1.2.1) (by decide)) ?_
    refine v_iconst hX dX8_beginsMixing_17 lim1 ?_
    refine v_icmp_ne (tgt := 29) hX dX8_beginsMixing_18 rfl (fun c_18 => ?_) (fun c_18 => ?_)
    · refine v_iconst hX dX8_beginsMixing_29 lim1 ?_
      refine v_istore_n (lv' := [_, _, _, _, _, _, _]) hX dX8_beginsMixing_30 (Nat.le_of_ble_eq_true rfl) rfl rfl ?_
      refine v_iload_n hX dX8_beginsMixing_31 rfl ?_
      refine v_iconst hX dX8_beginsMixing_32 lim1 ?_
      refine v_icmp_ne_f (tgt := 39) hX dX8_beginsMixing_33 rfl (rfl) ?_
      refine v_goto (tgt := 180) hX dX8_beginsMixing_36 rfl ?_
      refine v_iinc (lv' := [_, _, _, _, _, _, _]) hX dX8_beginsMixing_180 rfl li1 rfl rfl ?_
      refine v_goto (tgt := 2) hX dX8_beginsMixing_183 rfl ?_
      refine V.no (lv' := [_, _, _, _, _, _, _]) 3 rfl ?_
      refine V.no (lv' := [_, _, _, _, _, _, _]) 4 rfl ?_
      refine V.no (lv' := [_, _, _, _, _, _, _]) 5 rfl ?_
      refine V.no (lv' := [_, _, _, _, _, _, _]) 6 rfl ?_
      exact V.at rfl (by rw [nI_1]) rfl (ih w (hw.to (by first | (rw [tw_mix1, if_neg c_18]; done) | (rw [tw_mix1, if_neg c_18]; rfl))))
    · refine v_aload_n hX dX8_beginsMixing_21 rfl ?_
      refine v_iload_n hX dX8_beginsMixing_22 rfl ?_
      refine tv_callR hX rfl dX8_beginsMixing_23 q2391 cf_X8_nextInList hw (mX8_nextInList hw (hPy) _) rfl ⟨rfl, rfl⟩ ⟨Nat.le_of_ble_eq_true rfl, Nat.le_of_ble_eq_true rfl⟩ rfl (Nat.le_of_ble_eq_true rfl) ⟨Nat.le_of_ble_eq_true rfl, Nat.le_of_ble_eq_true rfl⟩ ?_
      refine v_goto (tgt := 30) hX dX8_beginsMixing_26 rfl ?_
      refine v_istore_n (lv' := [_, _, _, _, _, _, _]) hX dX8_beginsMixing_30 (Nat.le_of_ble_eq_true rfl) rfl rfl ?_
      refine v_iload_n hX dX8_beginsMixing_31 rfl ?_
      refine v_iconst hX dX8_beginsMixing_32 lim1 ?_
      refine v_icmp_ne (tgt := 39) hX dX8_beginsMixing_33 rfl (fun c_33 => ?_) (fun c_33 => ?_)
      · refine v_aload_n hX dX8_beginsMixing_39 rfl ?_
        refine v_iload_n hX dX8_beginsMixing_40 rfl ?_
        refine tv_callR hX rfl dX8_beginsMixing_41 q2325 cf_X8_productOfBatch hw (mX8_productOfBatch hw hPy _ ((tw_next_ok hPy).resolve_left c_33)) rfl ⟨rfl, rfl⟩ ⟨Nat.le_of_ble_eq_true rfl, Nat.le_of_ble_eq_true rfl⟩ rfl (Nat.le_of_ble_eq_true rfl) ⟨Nat.le_of_ble_eq_true rfl, Nat.le_of_ble_eq_true rfl⟩ ?_
        refine v_istore (lv' := [_, _, _, _, _, _, _]) hX dX8_beginsMixing_44 (Nat.le_of_ble_eq_true rfl) rfl rfl ?_
        refine v_aload_n hX dX8_beginsMixing_46 rfl ?_
        refine tv_getA hX dX8_beginsMixing_47 hw 45 (by decide) rfl q1954 ?_
        refine v_iload_n hX dX8_beginsMixing_50 rfl ?_
        refine tv_iald hX dX8_beginsMixing_51 hw (by decide) rfl rfl (vnI (Nat.lt_of_lt_of_le hi hP.2.2.1.2.1) (by decide)) ?_
        refine v_iconst hX dX8_beginsMixing_52 lim1 ?_
        refine v_icmp_eq (tgt := 76) hX dX8_beginsMixing_53 rfl (fun c_53 => ?_) (fun c_53 => ?_)
        · refine v_iconst hX dX8_beginsMixing_76 li0 ?_
          refine v_istore (lv' := [_, _, _, _, _, _, _]) hX dX8_beginsMixing_77 (Nat.le_of_ble_eq_true rfl) rfl rfl ?_
          refine v_iload hX dX8_beginsMixing_79 rfl ?_
          refine v_if_eq_t (tgt := 94) hX dX8_beginsMixing_81 rfl (rfl) ?_
          refine v_iload hX dX8_beginsMixing_94 rfl ?_
          refine v_if_eq_t (tgt := 109) hX dX8_beginsMixing_96 rfl (rfl) ?_
          refine v_iload_n hX dX8_beginsMixing_109 rfl ?_
          refine v_istore (lv' := [_, _, _, _, _, _, _]) hX dX8_beginsMixing_110 (Nat.le_of_ble_eq_true rfl) rfl rfl ?_
          refine v_aload_n hX dX8_beginsMixing_112 rfl ?_
          refine tv_getA hX dX8_beginsMixing_113 hw 45 (by decide) rfl q1954 ?_
          refine v_iload_n hX dX8_beginsMixing_116 rfl ?_
          refine v_aload_n hX dX8_beginsMixing_117 rfl ?_
          refine tv_getA hX dX8_beginsMixing_118 hw 6 (by decide) rfl q1915 ?_
          refine v_iload hX dX8_beginsMixing_121 rfl ?_
          refine tv_iald hX dX8_beginsMixing_123 hw (by decide) rfl rfl (bprod hPy ((tw_next_ok hPy).resolve_left c_33)) ?_
          refine tv_iast hX dX8_beginsMixing_124 hw (by decide) rfl rfl (vnI (Nat.lt_of_lt_of_le hi hP.2.2.1.2.1) (by decide)) (fun w hw => ?_)
          refine v_aload_n hX dX8_beginsMixing_125 rfl ?_
          refine tv_getA hX dX8_beginsMixing_126 hw 46 (by decide) rfl q1955 ?_
          refine v_iload_n hX dX8_beginsMixing_129 rfl ?_
          refine v_dup2 hX dX8_beginsMixing_130 rfl rfl ?_
          refine tv_iald hX dX8_beginsMixing_131 hw (by decide) rfl rfl (vnI (Nat.lt_of_lt_of_le hi hP.2.2.1.2.1) (by decide)) ?_
          refine v_iconst hX dX8_beginsMixing_132 li1 ?_
          refine v_iadd hX dX8_beginsMixing_133 ?_
          refine tv_iast hX dX8_beginsMixing_134 hw (by decide) rfl rfl (vnI (Nat.lt_of_lt_of_le hi hP.2.2.1.2.1) (by decide)) (fun w hw => ?_)
          refine v_aload_n hX dX8_beginsMixing_135 rfl ?_
          refine tv_getA hX dX8_beginsMixing_136 hw 43 (by decide) rfl q1952 ?_
          refine v_iload_n hX dX8_beginsMixing_139 rfl ?_
          refine v_iload_n hX dX8_beginsMixing_140 rfl ?_
          refine tv_iast hX dX8_beginsMixing_141 hw (by decide) rfl rfl (vnI (Nat.lt_of_lt_of_le hi hP.2.2.1.2.1) (by decide)) (fun w hw => ?_)
          refine v_aload_n hX dX8_beginsMixing_142 rfl ?_
          refine tv_getA hX dX8_beginsMixing_143 hw 44 (by decide) rfl q1953 ?_
          refine v_iload_n hX dX8_beginsMixing_146 rfl ?_
          refine v_iload hX dX8_beginsMixing_147 rfl ?_
          refine v_aload_n hX dX8_beginsMixing_149 rfl ?_
          refine tv_getA hX dX8_beginsMixing_150 hw 7 (by decide) rfl q1916 ?_
          refine v_iload hX dX8_beginsMixing_153 rfl ?_
          refine tv_iald hX dX8_beginsMixing_155 hw (by decide) rfl rfl (bprod hPy ((tw_next_ok hPy).resolve_left c_33)) ?_
          refine v_iadd hX dX8_beginsMixing_156 ?_
          refine tv_iast hX dX8_beginsMixing_157 hw (by decide) rfl rfl (vnI (Nat.lt_of_lt_of_le hi hP.2.2.1.2.1) (by decide)) (fun w hw => ?_)
          refine v_aload_n hX dX8_beginsMixing_158 rfl ?_
          refine tv_getA hX dX8_beginsMixing_159 hw 32 (by decide) rfl q1941 ?_
          refine v_iload_n hX dX8_beginsMixing_162 rfl ?_
          refine v_iconst hX dX8_beginsMixing_163 li1 ?_
          refine tv_iast hX dX8_beginsMixing_164 hw (by decide) rfl rfl (b20 hPy ((tw_next_ok hPy).resolve_left c_33)) (fun w hw => ?_)
          refine v_aload_n hX dX8_beginsMixing_165 rfl ?_
          refine tv_getA hX dX8_beginsMixing_166 hw 34 (by decide) rfl q1943 ?_
          refine v_iload_n hX dX8_beginsMixing_169 rfl ?_
          refine v_iload_n hX dX8_beginsMixing_170 rfl ?_
          refine tv_iast hX dX8_beginsMixing_171 hw (by decide) rfl rfl (b20 hPy ((tw_next_ok hPy).resolve_left c_33)) (fun w hw => ?_)
          refine v_aload_n hX dX8_beginsMixing_172 rfl ?_
          refine tv_getA hX dX8_beginsMixing_173 hw 35 (by decide) rfl q1944 ?_
          refine v_iload_n hX dX8_beginsMixing_176 rfl ?_
          refine v_iload hX dX8_beginsMixing_177 rfl ?_
          refine tv_iast hX dX8_beginsMixing_179 hw (by decide) rfl rfl (b20 hPy ((tw_next_ok hPy).resolve_left c_33)) (fun w hw => ?_)
          refine v_iinc (lv' := [_, _, _, _, _, _, _]) hX dX8_beginsMixing_180 rfl li1 rfl rfl ?_
          refine v_goto (tgt := 2) hX dX8_beginsMixing_183 rfl ?_
          refine V.no (lv' := [_, _, _, _, _, _, _]) 3 rfl ?_
          refine V.no (lv' := [_, _, _, _, _, _, _]) 4 rfl ?_
          refine V.no (lv' := [_, _, _, _, _, _, _]) 5 rfl ?_
          refine V.no (lv' := [_, _, _, _, _, _, _]) 6 rfl ?_
          exact V.at rfl (by rw [nI_1]) rfl (ih w (hw.to (by first | (rw [tw_mix1, tw_mixB, if_pos c_18, if_neg (show ¬ tw_next t y = -1 from c_33), if_pos c_53]; done) | (rw [tw_mix1, tw_mixB, if_pos c_18, if_neg (show ¬ tw_next t y = -1 from c_33), if_pos c_53]; rfl))))
        · refine v_aload_n hX dX8_beginsMixing_56 rfl ?_
          refine tv_getA hX dX8_beginsMixing_57 hw 45 (by decide) rfl q1954 ?_
          refine v_iload_n hX dX8_beginsMixing_60 rfl ?_
          refine tv_iald hX dX8_beginsMixing_61 hw (by decide) rfl rfl (vnI (Nat.lt_of_lt_of_le hi hP.2.2.1.2.1) (by decide)) ?_
          refine v_aload_n hX dX8_beginsMixing_62 rfl ?_
          refine tv_getA hX dX8_beginsMixing_63 hw 6 (by decide) rfl q1915 ?_
          refine v_iload hX dX8_beginsMixing_66 rfl ?_
          refine tv_iald hX dX8_beginsMixing_68 hw (by decide) rfl rfl (bprod hPy ((tw_next_ok hPy).resolve_left c_33)) ?_
          refine v_icmp_eq (tgt := 76) hX dX8_beginsMixing_69 rfl (fun c_69 => ?_) (fun c_69 => ?_)
          · refine v_iconst hX dX8_beginsMixing_76 li0 ?_
            refine v_istore (lv' := [_, _, _, _, _, _, _]) hX dX8_beginsMixing_77 (Nat.le_of_ble_eq_true rfl) rfl rfl ?_
            refine v_iload hX dX8_beginsMixing_79 rfl ?_
            refine v_if_eq_t (tgt := 94) hX dX8_beginsMixing_81 rfl (rfl) ?_
            refine v_iload hX dX8_beginsMixing_94 rfl ?_
            refine v_if_eq_t (tgt := 109) hX dX8_beginsMixing_96 rfl (rfl) ?_
            refine v_iload_n hX dX8_beginsMixing_109 rfl ?_
            refine v_istore (lv' := [_, _, _, _, _, _, _]) hX dX8_beginsMixing_110 (Nat.le_of_ble_eq_true rfl) rfl rfl ?_
            refine v_aload_n hX dX8_beginsMixing_112 rfl ?_
            refine tv_getA hX dX8_beginsMixing_113 hw 45 (by decide) rfl q1954 ?_
            refine v_iload_n hX dX8_beginsMixing_116 rfl ?_
            refine v_aload_n hX dX8_beginsMixing_117 rfl ?_
            refine tv_getA hX dX8_beginsMixing_118 hw 6 (by decide) rfl q1915 ?_
            refine v_iload hX dX8_beginsMixing_121 rfl ?_
            refine tv_iald hX dX8_beginsMixing_123 hw (by decide) rfl rfl (bprod hPy ((tw_next_ok hPy).resolve_left c_33)) ?_
            refine tv_iast hX dX8_beginsMixing_124 hw (by decide) rfl rfl (vnI (Nat.lt_of_lt_of_le hi hP.2.2.1.2.1) (by decide)) (fun w hw => ?_)
            refine v_aload_n hX dX8_beginsMixing_125 rfl ?_
            refine tv_getA hX dX8_beginsMixing_126 hw 46 (by decide) rfl q1955 ?_
            refine v_iload_n hX dX8_beginsMixing_129 rfl ?_
            refine v_dup2 hX dX8_beginsMixing_130 rfl rfl ?_
            refine tv_iald hX dX8_beginsMixing_131 hw (by decide) rfl rfl (vnI (Nat.lt_of_lt_of_le hi hP.2.2.1.2.1) (by decide)) ?_
            refine v_iconst hX dX8_beginsMixing_132 li1 ?_
            refine v_iadd hX dX8_beginsMixing_133 ?_
            refine tv_iast hX dX8_beginsMixing_134 hw (by decide) rfl rfl (vnI (Nat.lt_of_lt_of_le hi hP.2.2.1.2.1) (by decide)) (fun w hw => ?_)
            refine v_aload_n hX dX8_beginsMixing_135 rfl ?_
            refine tv_getA hX dX8_beginsMixing_136 hw 43 (by decide) rfl q1952 ?_
            refine v_iload_n hX dX8_beginsMixing_139 rfl ?_
            refine v_iload_n hX dX8_beginsMixing_140 rfl ?_
            refine tv_iast hX dX8_beginsMixing_141 hw (by decide) rfl rfl (vnI (Nat.lt_of_lt_of_le hi hP.2.2.1.2.1) (by decide)) (fun w hw => ?_)
            refine v_aload_n hX dX8_beginsMixing_142 rfl ?_
            refine tv_getA hX dX8_beginsMixing_143 hw 44 (by decide) rfl q1953 ?_
            refine v_iload_n hX dX8_beginsMixing_146 rfl ?_
            refine v_iload hX dX8_beginsMixing_147 rfl ?_
            refine v_aload_n hX dX8_beginsMixing_149 rfl ?_
            refine tv_getA hX dX8_beginsMixing_150 hw 7 (by decide) rfl q1916 ?_
            refine v_iload hX dX8_beginsMixing_153 rfl ?_
            refine tv_iald hX dX8_beginsMixing_155 hw (by decide) rfl rfl (bprod hPy ((tw_next_ok hPy).resolve_left c_33)) ?_
            refine v_iadd hX dX8_beginsMixing_156 ?_
            refine tv_iast hX dX8_beginsMixing_157 hw (by decide) rfl rfl (vnI (Nat.lt_of_lt_of_le hi hP.2.2.1.2.1) (by decide)) (fun w hw => ?_)
            refine v_aload_n hX dX8_beginsMixing_158 rfl ?_
            refine tv_getA hX dX8_beginsMixing_159 hw 32 (by decide) rfl q1941 ?_
            refine v_iload_n hX dX8_beginsMixing_162 rfl ?_
            refine v_iconst hX dX8_beginsMixing_163 li1 ?_
            refine tv_iast hX dX8_beginsMixing_164 hw (by decide) rfl rfl (b20 hPy ((tw_next_ok hPy).resolve_left c_33)) (fun w hw => ?_)
            refine v_aload_n hX dX8_beginsMixing_165 rfl ?_
            refine tv_getA hX dX8_beginsMixing_166 hw 34 (by decide) rfl q1943 ?_
            refine v_iload_n hX dX8_beginsMixing_169 rfl ?_
            refine v_iload_n hX dX8_beginsMixing_170 rfl ?_
            refine tv_iast hX dX8_beginsMixing_171 hw (by decide) rfl rfl (b20 hPy ((tw_next_ok hPy).resolve_left c_33)) (fun w hw => ?_)
            refine v_aload_n hX dX8_beginsMixing_172 rfl ?_
            refine tv_getA hX dX8_beginsMixing_173 hw 35 (by decide) rfl q1944 ?_
            refine v_iload_n hX dX8_beginsMixing_176 rfl ?_
            refine v_iload hX dX8_beginsMixing_177 rfl ?_
            refine tv_iast hX dX8_beginsMixing_179 hw (by decide) rfl rfl (b20 hPy ((tw_next_ok hPy).resolve_left c_33)) (fun w hw => ?_)
            refine v_iinc (lv' := [_, _, _, _, _, _, _]) hX dX8_beginsMixing_180 rfl li1 rfl rfl ?_
            refine v_goto (tgt := 2) hX dX8_beginsMixing_183 rfl ?_
            refine V.no (lv' := [_, _, _, _, _, _, _]) 3 rfl ?_
            refine V.no (lv' := [_, _, _, _, _, _, _]) 4 rfl ?_
            refine V.no (lv' := [_, _, _, _, _, _, _]) 5 rfl ?_
            refine V.no (lv' := [_, _, _, _, _, _, _]) 6 rfl ?_
            exact V.at rfl (by rw [nI_1]) rfl (ih w (hw.to (by first | (rw [tw_mix1, tw_mixB, if_pos c_18, if_neg (show ¬ tw_next t y = -1 from c_33), if_neg c_53, if_pos c_69]; done) | (rw [tw_mix1, tw_mixB, if_pos c_18, if_neg (show ¬ tw_next t y = -1 from c_33), if_neg c_53, if_pos c_69]; rfl))))
          · refine v_iconst hX dX8_beginsMixing_72 li1 ?_
            refine v_goto (tgt := 77) hX dX8_beginsMixing_73 rfl ?_
            refine v_istore (lv' := [_, _, _, _, _, _, _]) hX dX8_beginsMixing_77 (Nat.le_of_ble_eq_true rfl) rfl rfl ?_
            refine v_iload hX dX8_beginsMixing_79 rfl ?_
            refine v_if_eq_f (tgt := 94) hX dX8_beginsMixing_81 rfl (by decide) ?_
            refine v_aload_n hX dX8_beginsMixing_84 rfl ?_
            refine v_dup hX dX8_beginsMixing_85 rfl ?_
            refine tv_getI hX dX8_beginsMixing_86 hw 52 (by decide) rfl q1961 ?_
            refine v_iconst hX dX8_beginsMixing_89 li1 ?_
            refine v_iadd hX dX8_beginsMixing_90 ?_
            refine tv_putI hX dX8_beginsMixing_91 hw 52 (by decide) rfl q1961 rfl (by decide +kernel) (fun w hw => ?_)
            refine v_iload hX dX8_beginsMixing_94 rfl ?_
            refine v_if_eq_f (tgt := 109) hX dX8_beginsMixing_96 rfl (by decide) ?_
            refine v_iload_n hX dX8_beginsMixing_99 rfl ?_
            refine v_aload_n hX dX8_beginsMixing_100 rfl ?_
            refine v_iconst hX dX8_beginsMixing_101 li3 ?_
            refine tv_callR hX rfl dX8_beginsMixing_102 q2229 cf_X8_get hw (mX8_get hw _ (gidx (hPy.k (tK_sI (by decide))) (vin (by decide)))) rfl ⟨rfl, rfl⟩ ⟨Nat.le_of_ble_eq_true rfl, Nat.le_of_ble_eq_true rfl⟩ rfl (Nat.le_of_ble_eq_true rfl) ⟨Nat.le_of_ble_eq_true rfl, Nat.le_of_ble_eq_true rfl⟩ ?_
            refine v_iadd hX dX8_beginsMixing_105 ?_
            refine v_goto (tgt := 110) hX dX8_beginsMixing_106 rfl ?_
            refine v_istore (lv' := [_, _, _, _, _, _, _]) hX dX8_beginsMixing_110 (Nat.le_of_ble_eq_true rfl) rfl rfl ?_
            refine v_aload_n hX dX8_beginsMixing_112 rfl ?_
            refine tv_getA hX dX8_beginsMixing_113 hw 45 (by decide) rfl q1954 ?_
            refine v_iload_n hX dX8_beginsMixing_116 rfl ?_
            refine v_aload_n hX dX8_beginsMixing_117 rfl ?_
            refine tv_getA hX dX8_beginsMixing_118 hw 6 (by decide) rfl q1915 ?_
            refine v_iload hX dX8_beginsMixing_121 rfl ?_
            refine tv_iald hX dX8_beginsMixing_123 hw (by decide) rfl rfl (bprod hPy ((tw_next_ok hPy).resolve_left c_33)) ?_
            refine tv_iast hX dX8_beginsMixing_124 hw (by decide) rfl rfl (vnI (Nat.lt_of_lt_of_le hi hP.2.2.1.2.1) (by decide)) (fun w hw => ?_)
            refine v_aload_n hX dX8_beginsMixing_125 rfl ?_
            refine tv_getA hX dX8_beginsMixing_126 hw 46 (by decide) rfl q1955 ?_
            refine v_iload_n hX dX8_beginsMixing_129 rfl ?_
            refine v_dup2 hX dX8_beginsMixing_130 rfl rfl ?_
            refine tv_iald hX dX8_beginsMixing_131 hw (by decide) rfl rfl (vnI (Nat.lt_of_lt_of_le hi hP.2.2.1.2.1) (by decide)) ?_
            refine v_iconst hX dX8_beginsMixing_132 li1 ?_
            refine v_iadd hX dX8_beginsMixing_133 ?_
            refine tv_iast hX dX8_beginsMixing_134 hw (by decide) rfl rfl (vnI (Nat.lt_of_lt_of_le hi hP.2.2.1.2.1) (by decide)) (fun w hw => ?_)
            refine v_aload_n hX dX8_beginsMixing_135 rfl ?_
            refine tv_getA hX dX8_beginsMixing_136 hw 43 (by decide) rfl q1952 ?_
            refine v_iload_n hX dX8_beginsMixing_139 rfl ?_
            refine v_iload_n hX dX8_beginsMixing_140 rfl ?_
            refine tv_iast hX dX8_beginsMixing_141 hw (by decide) rfl rfl (vnI (Nat.lt_of_lt_of_le hi hP.2.2.1.2.1) (by decide)) (fun w hw => ?_)
            refine v_aload_n hX dX8_beginsMixing_142 rfl ?_
            refine tv_getA hX dX8_beginsMixing_143 hw 44 (by decide) rfl q1953 ?_
            refine v_iload_n hX dX8_beginsMixing_146 rfl ?_
            refine v_iload hX dX8_beginsMixing_147 rfl ?_
            refine v_aload_n hX dX8_beginsMixing_149 rfl ?_
            refine tv_getA hX dX8_beginsMixing_150 hw 7 (by decide) rfl q1916 ?_
            refine v_iload hX dX8_beginsMixing_153 rfl ?_
            refine tv_iald hX dX8_beginsMixing_155 hw (by decide) rfl rfl (bprod hPy ((tw_next_ok hPy).resolve_left c_33)) ?_
            refine v_iadd hX dX8_beginsMixing_156 ?_
            refine tv_iast hX dX8_beginsMixing_157 hw (by decide) rfl rfl (vnI (Nat.lt_of_lt_of_le hi hP.2.2.1.2.1) (by decide)) (fun w hw => ?_)
            refine v_aload_n hX dX8_beginsMixing_158 rfl ?_
            refine tv_getA hX dX8_beginsMixing_159 hw 32 (by decide) rfl q1941 ?_
            refine v_iload_n hX dX8_beginsMixing_162 rfl ?_
            refine v_iconst hX dX8_beginsMixing_163 li1 ?_
            refine tv_iast hX dX8_beginsMixing_164 hw (by decide) rfl rfl (b20 hPy ((tw_next_ok hPy).resolve_left c_33)) (fun w hw => ?_)
            refine v_aload_n hX dX8_beginsMixing_165 rfl ?_
            refine tv_getA hX dX8_beginsMixing_166 hw 34 (by decide) rfl q1943 ?_
            refine v_iload_n hX dX8_beginsMixing_169 rfl ?_
            refine v_iload_n hX dX8_beginsMixing_170 rfl ?_
            refine tv_iast hX dX8_beginsMixing_171 hw (by decide) rfl rfl (b20 hPy ((tw_next_ok hPy).resolve_left c_33)) (fun w hw => ?_)
            refine v_aload_n hX dX8_beginsMixing_172 rfl ?_
            refine tv_getA hX dX8_beginsMixing_173 hw 35 (by decide) rfl q1944 ?_
            refine v_iload_n hX dX8_beginsMixing_176 rfl ?_
            refine v_iload hX dX8_beginsMixing_177 rfl ?_
            refine tv_iast hX dX8_beginsMixing_179 hw (by decide) rfl rfl (b20 hPy ((tw_next_ok hPy).resolve_left c_33)) (fun w hw => ?_)
            refine v_iinc (lv' := [_, _, _, _, _, _, _]) hX dX8_beginsMixing_180 rfl li1 rfl rfl ?_
            refine v_goto (tgt := 2) hX dX8_beginsMixing_183 rfl ?_
            refine V.no (lv' := [_, _, _, _, _, _, _]) 3 rfl ?_
            refine V.no (lv' := [_, _, _, _, _, _, _]) 4 rfl ?_
            refine V.no (lv' := [_, _, _, _, _, _, _]) 5 rfl ?_
            refine V.no (lv' := [_, _, _, _, _, _, _]) 6 rfl ?_
            exact V.at rfl (by rw [nI_1]) rfl (ih w (hw.to (by first | (rw [tw_mix1, tw_mixB, if_pos c_18, if_neg (show ¬ tw_next t y = -1 from c_33), if_neg c_53, if_neg c_69]; done) | (rw [tw_mix1, tw_mixB, if_pos c_18, if_neg (show ¬ tw_next t y = -1 from c_33), if_neg c_53, if_neg c_69]; rfl))))
      · refine v_goto (tgt := 180) hX dX8_beginsMixing_36 rfl ?_
        refine v_iinc (lv' := [_, _, _, _, _, _, _]) hX dX8_beginsMixing_180 rfl li1 rfl rfl ?_
        refine v_goto (tgt := 2) hX dX8_beginsMixing_183 rfl ?_
        refine V.no (lv' := [_, _, _, _, _, _, _]) 3 rfl ?_
        refine V.no (lv' := [_, _, _, _, _, _, _]) 4 rfl ?_
        refine V.no (lv' := [_, _, _, _, _, _, _]) 5 rfl ?_
        refine V.no (lv' := [_, _, _, _, _, _, _]) 6 rfl ?_
        exact V.at rfl (by rw [nI_1]) rfl (ih w (hw.to (by first | (rw [tw_mix1, if_pos c_18, if_pos (show tw_next t y = -1 from c_33)]; done) | (rw [tw_mix1, if_pos c_18, if_pos (show tw_next t y = -1 from c_33)]; rfl))))
