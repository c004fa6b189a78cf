/-! objects of many arrays in the making -/
set_option maxRecDepth 100000
def pfs (NF : Nat) (dv : Nat → Value) (G : Nat → Option Nat) : List Value := (List.range NF).map (fun j => match G j with | some q => Value.ref q | none => dv j)
/-- the object at a of class ci: the arrays that G names are made -/
def pW (ci NF : Nat) (dv : Nat → Value) (cell : Nat → va_E) (a : Nat) (G : Nat → Option Nat) (wB w : Wd) : Prop := w a = some (true, .inr (ci, pfs NF dv G)) ∧ (∀ j q, G j = some q → w q = some (true, cell j)) ∧ (∀ z, z ≠ a → (∀ j, G j ≠ some z) → w z = wB z) ∧ (∀ i j q, G i = some q → G j = some q → i = j) ∧ ∀ j q, G j = some q → wB q = none ∧ q ≠ a
theorem pfs_at {NF : Nat} {dv : Nat → Value} {G : Nat → Option Nat} {j : Nat} (h : j < NF) : (pfs NF dv G)[j]? = some (match G j with | some q => Value.ref q | none => dv j) := by
  unfold pfs
  rw [List.getElem?_map, List.getElem?_range h]; rfl
theorem pfs_len {NF : Nat} {dv : Nat → Value} {G : Nat → Option Nat} : (pfs NF dv G).length = NF := by simp [pfs]
theorem pfs_set {NF : Nat} {dv : Nat → Value} {G : Nat → Option Nat} {j q : Nat} (h : j < NF) : (pfs NF dv G).set j (.ref q) = pfs NF dv (va_up G j (some q)) := by
  apply List.ext_getElem?
  intro i
  rw [List.getElem?_set]
  by_cases e : j = i
  · subst e
    rw [if_pos rfl, pfs_len, if_pos h, pfs_at h, va_up_self]
  · rw [if_neg e]
    by_cases hi : i < NF
    · rw [pfs_at hi, pfs_at hi, va_up_ne _ _ (Ne.symm e)]
    · rw [List.getElem?_eq_none (by rw [pfs_len]; omega), List.getElem?_eq_none (by rw [pfs_len]; omega)]
theorem pW.zero {ci NF : Nat} {dv : Nat → Value} {cell : Nat → va_E} {a : Nat} {w : Wd} (ha : w a = some (true, .inr (ci, pfs NF dv (fun _ => none)))) : pW ci NF dv cell a (fun _ => none) w w := by
  refine ⟨ha, ?_, ?_, ?_, ?_⟩
  · intro j q e; cases e
  · intro z _ _; rfl
  · intro i j q e; cases e
  · intro j q e; cases e
theorem pW.step {ci NF : Nat} {dv : Nat → Value} {cell : Nat → va_E} {a : Nat} {G : Nat → Option Nat} {wB w : Wd} (h : pW ci NF dv cell a G wB w) {j q : Nat} (hj : j < NF) (hG : G j = none) (hq : w q = none) : pW ci NF dv cell a (va_up G j (some q)) wB (wup (wup w q (true, cell j)) a (true, .inr (ci, (pfs NF dv G).set j (.ref q)))) := by
  obtain ⟨h1, h2, h3, h4, h5⟩ := h
  have hqa : q ≠ a := fun e => by rw [e, h1] at hq; cases hq
  have hqG : ∀ i, G i ≠ some q := fun i e => by rw [h2 i q e] at hq; cases hq
  refine ⟨by rw [wup_s, pfs_set hj], fun i r hi => ?_, fun z hz hz2 => ?_, fun i k r hi hk => ?_, fun i r hi => ?_⟩
  · by_cases e : i = j
    · subst e
      rw [va_up_self] at hi
      cases hi
      rw [wup_n hqa, wup_s]
    · rw [va_up_ne _ _ e] at hi
      rw [wup_n (h5 i r hi).2, wup_n (show r ≠ q from fun z => hqG i (by rw [← z]; exact hi)), h2 i r hi]
  · have hzq : z ≠ q := fun e => hz2 j (by rw [va_up_self, e])
    rw [wup_n hz, wup_n hzq]
    refine h3 z hz (fun i e => hz2 i ?_)
    rw [va_up_ne _ _ (fun z => by rw [z, hG] at e; cases e)]
    exact e
  · by_cases e : i = j
    · subst e
      rw [va_up_self] at hi
      cases hi
      by_cases e2 : k = i
      · exact e2.symm
      · rw [va_up_ne _ _ e2] at hk; exact absurd hk (hqG k)
    · rw [va_up_ne _ _ e] at hi
      by_cases e2 : k = j
      · subst e2
        rw [va_up_self] at hk
        cases hk
        exact absurd hi (hqG i)
      · rw [va_up_ne _ _ e2] at hk; exact h4 i k r hi hk
  · by_cases e : i = j
    · subst e
      rw [va_up_self] at hi
      cases hi
      refine ⟨?_, hqa⟩
      rw [← h3 q hqa hqG]; exact hq
    · rw [va_up_ne _ _ e] at hi; exact h5 i r hi
section VMK
variable {X : Cx} {w wB : Wd} {k n pc nL : Nat} {lv : List (Option Value)} {st : List Value} {cc : ByteArray} {own : String} {RM : Room} {ci NF index N ti a : Nat} {dv : Nat → Value} {cell : Nat → va_E} {G : Nat → Option Nat} {C ref : String} {T : u_T} {m : Int32} {atype : ArrayType} {ty : FieldType} {a0 : vp_A}
theorem v_mk (hX : OK X cc own nL RM) (hd1 : decode cc pc = .ok (.newarray atype, 2)) (hd2 : decode cc (pc + 2) = .ok (.putfield index, 3)) (hw : pW ci NF dv cell a G wB w) (harr : Cond.arrayClass (newarray.typeOf atype) ∈ lw_all) (hty : newarray.typeOf atype = ty) (ht : (wty (xG X))[ti]? = some ((xG X).2.1 ti, ty)) (ha : ∀ cA : ClassId, vp_cell cA a0 = arrV cA N (fun _ => defaultValue ty)) (hm : ¬ m < 0) (hN : m.toNatClampNeg = N) (hbytes : N * componentBytes ty ≤ 536870912) (hk : k + 1 ≤ RM.cells) (hn : n + N ≤ RM.slots)
    (hin : ∀ w ∈ u_ws C T NF, w ∈ lw_all) (ty0 : Nat → FieldType) (hty0 : ∀ k, k < NF → parseFieldDescriptor (T k).2.2.1 = some (ty0 k)) (hnm : ∀ a, a < NF → ∀ b, b < NF → a ≠ b → (T a).2.1 ≠ (T b).2.1) (hc : vwCl[ci]? = some (C, T, NF)) (j : Nat) (hj : j < NF) (hlink : Cond.fieldLink own index ref (T j).2.1 (T j).2.2.1 ∈ lw_all) (hsame : ∀ x, (xs X).fieldFound? (T j).1 (T j).2.1 (T j).2.2.1 = some x → (xs X).fieldFound? ref (T j).2.1 (T j).2.2.1 = some x) (hfin : (T j).2.2.2 = true) (hini : (xh X).name = "<init>") (hdecl : (T j).1 = own) (hnr : ∀ q : Nat, narrow (ty0 j) (.ref q) = .ref q) (hft : ∀ q : Nat, fits (ty0 j) (.ref q) = true) (hcell : cell j = .inl ((xG X).2.1 ti, a0)) (hG : G j = none)
    (kk : ∀ (q : Nat) (w : Wd), pW ci NF dv cell a (va_up G j (some q)) wB w → V X w (k + 1) (n + N) (pc + 2 + 3) lv st) : V X w k n pc lv (.int m :: .ref a :: st) := by
  refine v_newa hX hd1 harr hty ht ha hm hN hbytes hk hn (fun q hq => ?_)
  have hs := hw.step (j := j) hj hG hq
  rw [hcell] at hs
  have hqa : a ≠ q := fun e => by rw [← e, hw.1] at hq; cases hq
  exact v_putF hX hd2 hin ty0 hty0 hnm hc j hj hlink hsame hfin hini hdecl (hty0 j hj) (hnr q) (hft q) ((wup_n hqa).trans hw.1) (by rw [pfs_len]; exact hj) (kk q _ hs)
end VMK
