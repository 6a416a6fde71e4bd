/-! THE REFERENCE: batches, on -/
set_option maxRecDepth 100000
/-- from h to h', at most m's own cells have changed -/
def Mto (h h' : PH) (m : Nat) : Prop := ∀ q, (∀ o e, h q = some (o, e) → o.1 ≠ m) → h' q = h q
theorem Mto.rf {h : PH} {m : Nat} : Mto h h m := fun _ _ => rfl
theorem Mto.tr {h h1 h2 : PH} {m : Nat} (a : Mto h h1 m) (b : Mto h1 h2 m) : Mto h h2 m := fun q z => (b q (fun o e w => z o e ((a q z).symm.trans w))).trans (a q z)
theorem Mto.st {h h1 : PH} {m a j : Nat} {e e' : va_E} (z : Mto h h1 m) (ha : h1 a = some ((m, j), e)) : Mto h (hu h1 a (m, j) e') m := by
  intro q hq
  have h2 := z q hq
  have hne : q ≠ a := by
    intro w
    subst w
    exact hq (m, j) e (h2.symm.trans ha) rfl
  rw [hu_ne hne]; exact h2
section MU
variable {G : GT} {h : PH} {m : Nat} {A : Nat → Nat} {f : Nat → Int32} {hs : Int64} {g : Nat → Nat → Int32}
theorem MRep.u2 (hM : MRep G h m A f hs g) (s : Nat → Int32) : MRep G (hu h (A 2) (m, 2) (ia G 142 s)) m A f hs (va_up g 2 s) := by
  obtain ⟨h0, h1, h2, h3, h5, h9, h11, h12, h13, h14⟩ := hM
  exact ⟨hu_k h0 h2 (ow_ne (by decide)), hu_k h1 h2 (ow_ne (by decide)), hu_eq, hu_k h3 h2 (ow_ne (by decide)), hu_k h5 h2 (ow_ne (by decide)), hu_k h9 h2 (ow_ne (by decide)), hu_k h11 h2 (ow_ne (by decide)), hu_k h12 h2 (ow_ne (by decide)), hu_k h13 h2 (ow_ne (by decide)), hu_k h14 h2 (ow_ne (by decide))⟩
theorem MRep.u3 (hM : MRep G h m A f hs g) (s : Nat → Int32) : MRep G (hu h (A 3) (m, 3) (ia G 852 s)) m A f hs (va_up g 3 s) := by
  obtain ⟨h0, h1, h2, h3, h5, h9, h11, h12, h13, h14⟩ := hM
  exact ⟨hu_k h0 h3 (ow_ne (by decide)), hu_k h1 h3 (ow_ne (by decide)), hu_k h2 h3 (ow_ne (by decide)), hu_eq, hu_k h5 h3 (ow_ne (by decide)), hu_k h9 h3 (ow_ne (by decide)), hu_k h11 h3 (ow_ne (by decide)), hu_k h12 h3 (ow_ne (by decide)), hu_k h13 h3 (ow_ne (by decide)), hu_k h14 h3 (ow_ne (by decide))⟩
theorem MRep.u5 (hM : MRep G h m A f hs g) (s : Nat → Int32) : MRep G (hu h (A 5) (m, 5) (ia G 60 s)) m A f hs (va_up g 5 s) := by
  obtain ⟨h0, h1, h2, h3, h5, h9, h11, h12, h13, h14⟩ := hM
  exact ⟨hu_k h0 h5 (ow_ne (by decide)), hu_k h1 h5 (ow_ne (by decide)), hu_k h2 h5 (ow_ne (by decide)), hu_k h3 h5 (ow_ne (by decide)), hu_eq, hu_k h9 h5 (ow_ne (by decide)), hu_k h11 h5 (ow_ne (by decide)), hu_k h12 h5 (ow_ne (by decide)), hu_k h13 h5 (ow_ne (by decide)), hu_k h14 h5 (ow_ne (by decide))⟩
theorem MRep.u9 (hM : MRep G h m A f hs g) (s : Nat → Int32) : MRep G (hu h (A 9) (m, 9) (ia G 6 s)) m A f hs (va_up g 9 s) := by
  obtain ⟨h0, h1, h2, h3, h5, h9, h11, h12, h13, h14⟩ := hM
  exact ⟨hu_k h0 h9 (ow_ne (by decide)), hu_k h1 h9 (ow_ne (by decide)), hu_k h2 h9 (ow_ne (by decide)), hu_k h3 h9 (ow_ne (by decide)), hu_k h5 h9 (ow_ne (by decide)), hu_eq, hu_k h11 h9 (ow_ne (by decide)), hu_k h12 h9 (ow_ne (by decide)), hu_k h13 h9 (ow_ne (by decide)), hu_k h14 h9 (ow_ne (by decide))⟩
theorem MRep.u11 (hM : MRep G h m A f hs g) (s : Nat → Int32) : MRep G (hu h (A 11) (m, 11) (ia G 6 s)) m A f hs (va_up g 11 s) := by
  obtain ⟨h0, h1, h2, h3, h5, h9, h11, h12, h13, h14⟩ := hM
  exact ⟨hu_k h0 h11 (ow_ne (by decide)), hu_k h1 h11 (ow_ne (by decide)), hu_k h2 h11 (ow_ne (by decide)), hu_k h3 h11 (ow_ne (by decide)), hu_k h5 h11 (ow_ne (by decide)), hu_k h9 h11 (ow_ne (by decide)), hu_eq, hu_k h12 h11 (ow_ne (by decide)), hu_k h13 h11 (ow_ne (by decide)), hu_k h14 h11 (ow_ne (by decide))⟩
theorem MRep.u12 (hM : MRep G h m A f hs g) (s : Nat → Int32) : MRep G (hu h (A 12) (m, 12) (ia G 6 s)) m A f hs (va_up g 12 s) := by
  obtain ⟨h0, h1, h2, h3, h5, h9, h11, h12, h13, h14⟩ := hM
  exact ⟨hu_k h0 h12 (ow_ne (by decide)), hu_k h1 h12 (ow_ne (by decide)), hu_k h2 h12 (ow_ne (by decide)), hu_k h3 h12 (ow_ne (by decide)), hu_k h5 h12 (ow_ne (by decide)), hu_k h9 h12 (ow_ne (by decide)), hu_k h11 h12 (ow_ne (by decide)), hu_eq, hu_k h13 h12 (ow_ne (by decide)), hu_k h14 h12 (ow_ne (by decide))⟩
theorem MRep.u13 (hM : MRep G h m A f hs g) (s : Nat → Int32) : MRep G (hu h (A 13) (m, 13) (za G 6 s)) m A f hs (va_up g 13 s) := by
  obtain ⟨h0, h1, h2, h3, h5, h9, h11, h12, h13, h14⟩ := hM
  exact ⟨hu_k h0 h13 (ow_ne (by decide)), hu_k h1 h13 (ow_ne (by decide)), hu_k h2 h13 (ow_ne (by decide)), hu_k h3 h13 (ow_ne (by decide)), hu_k h5 h13 (ow_ne (by decide)), hu_k h9 h13 (ow_ne (by decide)), hu_k h11 h13 (ow_ne (by decide)), hu_k h12 h13 (ow_ne (by decide)), hu_eq, hu_k h14 h13 (ow_ne (by decide))⟩
theorem MRep.u14 (hM : MRep G h m A f hs g) (s : Nat → Int32) : MRep G (hu h (A 14) (m, 14) (ia G 142 s)) m A f hs (va_up g 14 s) := by
  obtain ⟨h0, h1, h2, h3, h5, h9, h11, h12, h13, h14⟩ := hM
  exact ⟨hu_k h0 h14 (ow_ne (by decide)), hu_k h1 h14 (ow_ne (by decide)), hu_k h2 h14 (ow_ne (by decide)), hu_k h3 h14 (ow_ne (by decide)), hu_k h5 h14 (ow_ne (by decide)), hu_k h9 h14 (ow_ne (by decide)), hu_k h11 h14 (ow_ne (by decide)), hu_k h12 h14 (ow_ne (by decide)), hu_k h13 h14 (ow_ne (by decide)), hu_eq⟩
theorem MRep.uo (hM : MRep G h m A f hs g) {fs : List Value} {f' : Nat → Int32} {hs' : Int64} (e : fs = mfs A f' hs') : MRep G (hu h m (m, 0) (ob 6 fs)) m A f' hs' g := by
  subst e
  obtain ⟨h0, h1, h2, h3, h5, h9, h11, h12, h13, h14⟩ := hM
  exact ⟨hu_eq, hu_k h1 h0 (ow_ne (by decide)), hu_k h2 h0 (ow_ne (by decide)), hu_k h3 h0 (ow_ne (by decide)), hu_k h5 h0 (ow_ne (by decide)), hu_k h9 h0 (ow_ne (by decide)), hu_k h11 h0 (ow_ne (by decide)), hu_k h12 h0 (ow_ne (by decide)), hu_k h13 h0 (ow_ne (by decide)), hu_k h14 h0 (ow_ne (by decide))⟩
end MU
def stp (t : St) (x : Int32) : Int32 := match itm (sI t) x with
  | none => 0
  | some y => absI (way t y.2.2)
def nrf (t : St) (xs : List Int32) (b : Option Nat) (k : Nat) : Option Nat :=
  if reason t (xs.getD k 0) = 0 then
    match b with
    | none => some k
    | some q => if stp t (xs.getD k 0) < stp t (xs.getD q 0) then some k else b
  else b
def nst (t : St) (xs : List Int32) : Option Nat := (List.range' 0 xs.length).foldl (nrf t xs) none
def pnr : Nat → St → List Int32 → Nat × St
  | 0, t, _ => (0, t)
  | n + 1, t, xs => match nst t xs with
    | none => (0, t)
    | some k => ((pnr n (pck t (xs.getD k 0)) xs).1 + 1, (pnr n (pck t (xs.getD k 0)) xs).2)
def pckN (t : St) (xs : List Int32) : Nat × St := pnr (sI t).length t xs
theorem nst_ok {t : St} {xs : List Int32} {k : Nat} (h : nst t xs = some k) : k < xs.length ∧ reason t (xs.getD k 0) = 0 := by
  have key : ∀ (l : List Nat) (b : Option Nat), (∀ i ∈ l, i < xs.length) → (∀ q, b = some q → q < xs.length ∧ reason t (xs.getD q 0) = 0) → ∀ q, l.foldl (nrf t xs) b = some q → q < xs.length ∧ reason t (xs.getD q 0) = 0 := by
    intro l
    induction l with
    | nil => exact fun b _ hb q hq => hb q hq
    | cons i r ih =>
      intro b hl hb q hq
      rw [List.foldl_cons] at hq
      refine ih _ (fun j hj => hl j (List.mem_cons_of_mem _ hj)) (fun q' hq' => ?_) q hq
      unfold nrf at hq'
      by_cases z : reason t (xs.getD i 0) = 0
      · rw [if_pos z] at hq'
        cases b with
        | none => cases hq'; exact ⟨hl i List.mem_cons_self, z⟩
        | some w =>
          have hq' : (if stp t (xs.getD i 0) < stp t (xs.getD w 0) then some i else some w) = some q' := hq'
          by_cases y : stp t (xs.getD i 0) < stp t (xs.getD w 0)
          · rw [if_pos y] at hq'; cases hq'; exact ⟨hl i List.mem_cons_self, z⟩
          · rw [if_neg y] at hq'; exact hb q' hq'
      · rw [if_neg z] at hq'; exact hb q' hq'
  exact key _ none (fun i hi => by have := List.mem_range'.mp hi; omega) (fun q hq => by cases hq) k h
theorem itm_none_pck {t : St} {x z : Int32} (h : itm (sI t) z = none) : itm (sI (pck t x)) z = none := by
  unfold pck
  cases hi : itm (sI t) x with
  | none => exact h
  | some y =>
    have h1 := List.find?_eq_none.mp (show (sI t).find? (isX z) = none from h)
    exact List.find?_eq_none.mpr (fun w hw => h1 w (List.mem_of_mem_eraseP hw))
theorem itm_pck {c : Nat} {t : St} (hw : WF c t) (hc : c < 2 ^ 31) {x : Int32} : itm (sI (pck t x)) x = none := by
  unfold pck
  cases hi : itm (sI t) x with
  | none => exact hi
  | some y =>
    obtain ⟨i, hp, hy, hx⟩ := itm_pos hi
    refine List.find?_eq_none.mpr (fun w hw2 => ?_)
    have hw2 : w ∈ (sI t).eraseP (isX x) := hw2
    rw [pos_erase hp] at hw2
    obtain ⟨j, hj⟩ := List.getElem?_of_mem hw2
    rw [List.getElem?_eraseIdx] at hj
    intro z
    have hwx : nI w.1 = x := by simpa [isX] using z
    have inj : ∀ (k : Nat) (v : It), (sI t)[k]? = some v → nI v.1 = x → k = i := by
      intro k v hk hv
      have b1 := (hw.it hk).1
      have b2 := (hw.it hy).1
      have b3 := hw.2.1
      have e : v.1 = y.1 := (nI_eq (by omega) (by omega)).mp (hv.trans hx.symm)
      have hnd := hw.2.2.2.2.1
      have hk1 := (List.getElem?_eq_some_iff.mp hk).1
      have hi1 := (List.getElem?_eq_some_iff.mp hy).1
      refine (List.getElem?_inj (l := (sI t).map (fun x => x.1)) (by rw [List.length_map]; exact hk1) hnd).mp ?_
      rw [List.getElem?_map, List.getElem?_map, hk, hy]
      exact congrArg some e
    by_cases q : j < i
    · rw [if_pos q] at hj; have := inj j w hj hwx; omega
    · rw [if_neg q] at hj; have := inj (j + 1) w hj hwx; omega
theorem len_pck {t : St} {x : Int32} {y : It} (h : itm (sI t) x = some y) : (sI (pck t x)).length + 1 = (sI t).length := by
  unfold pck
  rw [h]
  obtain ⟨i, hp, hy, hx⟩ := itm_pos h
  have hi1 := (List.getElem?_eq_some_iff.mp hy).1
  show ((sI t).eraseP (isX x)).length + 1 = _
  rw [pos_erase hp, List.length_eraseIdx_of_lt hi1]
  omega
theorem nst_nil {t : St} {xs : List Int32} (h : (sI t).length = 0) : nst t xs = none := by
  cases e : nst t xs with
  | none => rfl
  | some k =>
    obtain ⟨y, hy⟩ := reason0 (nst_ok e).2
    rw [List.length_eq_zero_iff.mp h] at hy
    cases hy
theorem pckN_0 {t : St} {xs : List Int32} (h : nst t xs = none) : pckN t xs = (0, t) := by
  unfold pckN
  cases (sI t).length with
  | zero => rfl
  | succ n => show (match nst t xs with | none => _ | some k => _) = _; rw [h]
theorem pckN_s {t : St} {xs : List Int32} {k : Nat} (h : nst t xs = some k) : pckN t xs = ((pckN (pck t (xs.getD k 0)) xs).1 + 1, (pckN (pck t (xs.getD k 0)) xs).2) := by
  obtain ⟨y, hy⟩ := reason0 (nst_ok h).2
  have hl := len_pck hy
  unfold pckN
  rw [← hl]
  show (match nst t xs with | none => _ | some k => _) = _
  rw [h]
section M4
variable {G : GT} {h : PH} {m : Nat} {A : Nat → Nat} {f : Nat → Int32} {hs : Int64} {g : Nat → Nat → Int32} {t : St} {c : Nat}
/-- the batch bs is read into the reference -/
def Bat (f : Nat → Int32) (g : Nat → Nat → Int32) (bs : List Nat) : Prop := arL (g 9) bs ∧ f 10 = nI bs.length ∧ bs.length ≤ 6
abbrev bX (bs : List Nat) : List Int32 := bs.map nI
theorem bX_get {bs : List Nat} {i x : Nat} (h : bs[i]? = some x) : (bX bs).getD i 0 = nI x := by simp [List.getD, bX, h]
theorem c_X3_nearest (hM : MRep G h m A f hs g) (hr : Row (g 1) t) (hw : WF c t) (bs : List Nat) (hb : Bat f g bs) (pk : Nat → Bool) (hpk : ∀ i, i < bs.length → g 13 i = bI (pk i)) (hpn : ∀ i, i < bs.length → pk i = true → itm (sI t) ((bX bs).getD i 0) = none) : CT G yX3_nearest cX3_nearest 4 (some .int) (rmL 7 0 0) [.ref m] h (fun v h' => v = some (.int (posI (nst t (bX bs)))) ∧ h = h') noX := by
  refine CT_of [some (.ref m), none, none, none] (by decide +kernel) rfl (Nat.le_of_ble_eq_true rfl) (fun X hC hF hE => ?_)
  obtain ⟨hb1, hb2, hb3⟩ := hb
  have hbl : (bX bs).length = bs.length := List.length_map _
  have loop : ∀ (i : Nat) (b : Option Nat) (z : Option Value), i ≤ bs.length → (∀ q, b = some q → q < bs.length ∧ reason t ((bX bs).getD q 0) = 0) → (List.range' i (bs.length - i)).foldl (nrf t (bX bs)) b = nst t (bX bs) → Go X G h 0 0 4 [some (.ref m), some (.int (posI b)), some (.int (nI i)), z] [] := by
    refine lpB (fun i _ => bs.length - i) (fun i b ih z hi hq ha => ?_)
    refine go_iload_n hC dX3_nearest_4 rfl ?_
    refine go_aload_n hC dX3_nearest_5 rfl ?_
    refine go_get hC kX3 hM.1 10 q1762 dX3_nearest_6 rfl (by decide) (Or.inl rfl) ?_
    refine go_N_ge hC 84 dX3_nearest_9 (by decide) rfl hb2 (by omega) (by omega) (fun c9 => ?_) (fun c9 => ?_)
    · rw [rg_e c9] at ha
      refine go_iload_n hC dX3_nearest_84 rfl ?_
      refine go_iret hC hF dX3_nearest_85 rfl rfl ?_
      exact ⟨by rw [← ha]; rfl, rfl⟩
    · rw [rg_c c9, List.foldl_cons] at ha
      obtain ⟨x, hx, -⟩ := get_of c9
      have ex := bX_get hx
      have eg := hb1 i x hx
      have no : ∀ z, nrf t (bX bs) b i = b → Go X G h 0 0 76 [some (.ref m), some (.int (posI b)), some (.int (nI i)), z] [] := by
        intro z hz
        refine go_iload_n hC dX3_nearest_76 rfl ?_
        refine go_istore_n hC dX3_nearest_77 (by decide) ?_
        refine go_iinc hC (v := nI (i + 1)) dX3_nearest_78 rfl (nI_1 _) (by decide) ?_
        refine go_goto hC 4 dX3_nearest_81 (by decide) ?_
        exact ih (i + 1) b (by omega) _ (by omega) hq (by rw [← ha, hz])
      have yes : ∀ z, reason t ((bX bs).getD i 0) = 0 → nrf t (bX bs) b i = some i → Go X G h 0 0 72 [some (.ref m), some (.int (posI b)), some (.int (nI i)), z] [] := by
        intro z hr0 hz
        refine go_iload_n hC dX3_nearest_72 rfl ?_
        refine go_goto hC 77 dX3_nearest_73 (by decide) ?_
        refine go_istore_n hC dX3_nearest_77 (by decide) ?_
        refine go_iinc hC (v := nI (i + 1)) dX3_nearest_78 rfl (nI_1 _) (by decide) ?_
        refine go_goto hC 4 dX3_nearest_81 (by decide) ?_
        exact ih (i + 1) (some i) (by omega) _ (by omega) (fun q e => by cases e; exact ⟨c9, hr0⟩) (by rw [← ha, hz])
      refine go_aload_n hC dX3_nearest_12 rfl ?_
      refine go_get hC kX3 hM.1 13 q1765 dX3_nearest_13 rfl (by decide) (Or.inl rfl) ?_
      refine go_iload_n hC dX3_nearest_16 rfl ?_
      refine go_zald hC i hM.2.2.2.2.2.2.2.2.1 dX3_nearest_17 (by first | rfl | (simp only [nI_add, pk_mul, nI_1, Int32.add_zero]; done) | (simp only [nI_add, pk_mul, nI_1, Int32.add_zero]; exact congrArg nI (by omega))) (by omega) (by omega) ?_
      rw [hpk i c9]
      refine go_B_ne hC 38 dX3_nearest_18 (by decide) rfl (fun c18 => ?_) (fun c18 => ?_)
      · refine go_iconst hC (0) dX3_nearest_38 (by decide) ?_
        refine go_istore_n hC dX3_nearest_39 (by decide) ?_
        refine go_iload_n hC dX3_nearest_40 rfl ?_
        refine go_if_eq hC 76 dX3_nearest_41 (by decide) (fun _ => ?_) (fun z => absurd rfl z)
        refine no _ ?_
        unfold nrf
        rw [if_neg]
        unfold reason
        rw [hpn i c9 c18]
        exact (by decide : ¬ (1 : Int32) = 0)
      · refine go_aload_n hC dX3_nearest_21 rfl ?_
        refine go_aload_n hC dX3_nearest_22 rfl ?_
        refine go_get hC kX3 hM.1 9 q1761 dX3_nearest_23 rfl (by decide) (Or.inl rfl) ?_
        refine go_iload_n hC dX3_nearest_26 rfl ?_
        refine go_iald hC i hM.2.2.2.2.2.1 dX3_nearest_27 (by first | rfl | (simp only [nI_add, pk_mul, nI_1, Int32.add_zero]; done) | (simp only [nI_add, pk_mul, nI_1, Int32.add_zero]; exact congrArg nI (by omega))) (by omega) (by omega) ?_
        rw [eg]
        refine go_callV0 hC (c_X3_reason hM hr hw (nI x)) (lw_V q1858 q1860 qs41 q83 q1861) hM.1 rfl dX3_nearest_28 1 rfl (by decide +kernel) rfl ⟨Nat.le_of_ble_eq_true rfl, Nat.le_of_ble_eq_true rfl⟩ (Nat.le_of_ble_eq_true rfl) ⟨rfl, rfl⟩ ?_
        rintro _ _ ⟨rfl, rfl⟩
        refine go_if_ne hC 38 dX3_nearest_31 (by decide) (fun c31 => ?_) (fun c31 => ?_)
        · refine go_iconst hC (0) dX3_nearest_38 (by decide) ?_
          refine go_istore_n hC dX3_nearest_39 (by decide) ?_
          refine go_iload_n hC dX3_nearest_40 rfl ?_
          refine go_if_eq hC 76 dX3_nearest_41 (by decide) (fun _ => ?_) (fun z => absurd rfl z)
          refine no _ ?_
          unfold nrf
          rw [if_neg (by rw [ex]; exact c31)]
        · obtain ⟨y, hy⟩ := reason0 c31
          refine go_iconst hC (1) dX3_nearest_34 (by decide) ?_
          refine go_goto hC 39 dX3_nearest_35 (by decide) ?_
          refine go_istore_n hC dX3_nearest_39 (by decide) ?_
          refine go_iload_n hC dX3_nearest_40 rfl ?_
          refine go_if_eq hC 76 dX3_nearest_41 (by decide) (fun z => absurd z (by decide)) (fun _ => ?_)
          cases b with
          | none =>
            refine go_iload_n hC dX3_nearest_44 rfl ?_
            refine go_iconst hC (-1) dX3_nearest_45 (by decide) ?_
            refine go_icmp_eq hC 72 dX3_nearest_46 (by decide) (fun _ => ?_) (fun z => absurd rfl z)
            refine yes _ (by rw [ex]; exact c31) ?_
            unfold nrf
            rw [if_pos (by rw [ex]; exact c31)]
          | some q =>
            obtain ⟨hq1, hq2⟩ := hq q rfl
            obtain ⟨xq, hxq, -⟩ := get_of hq1
            have exq := bX_get hxq
            have egq := hb1 q xq hxq
            rw [exq] at hq2
            obtain ⟨yq, hyq⟩ := reason0 hq2
            have hne : ¬ posI (some q) = -1 := fun z => absurd (congrArg Int32.toInt z) (by show ¬ (nI q).toInt = -1; rw [nI_toInt (by omega)]; omega)
            have s1 : stp t ((bX bs).getD i 0) = absI (way t y.2.2) := by unfold stp; rw [ex, hy]
            have s2 : stp t ((bX bs).getD q 0) = absI (way t yq.2.2) := by unfold stp; rw [exq, hyq]
            refine go_iload_n hC dX3_nearest_44 rfl ?_
            refine go_iconst hC (-1) dX3_nearest_45 (by decide) ?_
            refine go_icmp_eq hC 72 dX3_nearest_46 (by decide) (fun z => absurd z hne) (fun _ => ?_)
            refine go_aload_n hC dX3_nearest_49 rfl ?_
            refine go_aload_n hC dX3_nearest_50 rfl ?_
            refine go_get hC kX3 hM.1 9 q1761 dX3_nearest_51 rfl (by decide) (Or.inl rfl) ?_
            refine go_iload_n hC dX3_nearest_54 rfl ?_
            refine go_iald hC i hM.2.2.2.2.2.1 dX3_nearest_55 (by first | rfl | (simp only [nI_add, pk_mul, nI_1, Int32.add_zero]; done) | (simp only [nI_add, pk_mul, nI_1, Int32.add_zero]; exact congrArg nI (by omega))) (by omega) (by omega) ?_
            rw [eg]
            refine go_callV0 hC (c_X3_stepsTo hM hr hw (nI x) hy) (lw_V q1874 q1876 qs45 q83 q1877) hM.1 rfl dX3_nearest_56 1 rfl (by decide +kernel) rfl ⟨Nat.le_of_ble_eq_true rfl, Nat.le_of_ble_eq_true rfl⟩ (Nat.le_of_ble_eq_true rfl) ⟨rfl, rfl⟩ ?_
            rintro _ _ ⟨rfl, rfl⟩
            refine go_aload_n hC dX3_nearest_59 rfl ?_
            refine go_aload_n hC dX3_nearest_60 rfl ?_
            refine go_get hC kX3 hM.1 9 q1761 dX3_nearest_61 rfl (by decide) (Or.inl rfl) ?_
            refine go_iload_n hC dX3_nearest_64 rfl ?_
            refine go_iald hC q hM.2.2.2.2.2.1 dX3_nearest_65 (by first | rfl | (simp only [nI_add, pk_mul, nI_1, Int32.add_zero]; done) | (simp only [nI_add, pk_mul, nI_1, Int32.add_zero]; exact congrArg nI (by omega))) (by omega) (by omega) ?_
            rw [egq]
            refine go_callV0 hC (c_X3_stepsTo hM hr hw (nI xq) hyq) (lw_V q1874 q1876 qs45 q83 q1877) hM.1 rfl dX3_nearest_66 1 rfl (by decide +kernel) rfl ⟨Nat.le_of_ble_eq_true rfl, Nat.le_of_ble_eq_true rfl⟩ (Nat.le_of_ble_eq_true rfl) ⟨rfl, rfl⟩ ?_
            rintro _ _ ⟨rfl, rfl⟩
            refine go_icmp_ge hC 76 dX3_nearest_69 (by decide) (fun c69 => ?_) (fun c69 => ?_)
            · refine no _ ?_
              unfold nrf
              rw [if_pos (by rw [ex]; exact c31)]
              show (if _ then _ else _) = _
              rw [if_neg (by rw [s1, s2]; exact i32_nlt.mpr c69)]
            · refine yes _ (by rw [ex]; exact c31) ?_
              unfold nrf
              rw [if_pos (by rw [ex]; exact c31)]
              show (if _ then _ else _) = _
              rw [if_pos (by rw [s1, s2]; exact i32_nle.mp c69)]
  refine go_iconst hC (-1) dX3_nearest_0 (by decide) ?_
  refine go_istore_n hC dX3_nearest_1 (by decide) ?_
  refine go_iconst hC (0) dX3_nearest_2 (by decide) ?_
  refine go_istore_n hC dX3_nearest_3 (by decide) ?_
  exact loop 0 none _ (Nat.zero_le _) (fun q e => by cases e) (by unfold nst; rw [hbl]; rfl)
theorem c_X3_picksNearest (hM : MRep G h m A f hs g) (hr : Row (g 1) t) (hw : WF c t) (hc : c < 2 ^ 31) (bs : List Nat) (hb : Bat f g bs) : CT G yX3_picksNearest cX3_picksNearest 3 (some .int) (rmL 8 0 0) [.ref m] h (fun v h' => v = some (.int (nI (pckN t (bX bs)).1)) ∧ ∃ s s13, MRep G h' m A f hs (va_up (va_up g 1 s) 13 s13) ∧ Mto h h' m ∧ Row s (pckN t (bX bs)).2) noX := by
  refine CT_of [some (.ref m), none, none] (by decide +kernel) rfl (Nat.le_of_ble_eq_true rfl) (fun X hC hF hE => ?_)
  obtain ⟨hb1, hb2, hb3⟩ := hb
  have hbl : (bX bs).length = bs.length := List.length_map _
  have loop2 : ∀ (n : Nat) (t1 : St) (h1 : PH) (s s13 : Nat → Int32) (pk : Nat → Bool), MRep G h1 m A f hs (va_up (va_up g 1 s) 13 s13) → Mto h h1 m → Row s t1 → WF c t1 → (∀ i, i < bs.length → s13 i = bI (pk i)) → (∀ i, i < bs.length → pk i = true → itm (sI t1) ((bX bs).getD i 0) = none) → pckN t (bX bs) = (n + (pckN t1 (bX bs)).1, (pckN t1 (bX bs)).2) → Go X G h1 0 0 30 [some (.ref m), some (.int (nI n)), some (.int (posI (nst t1 (bX bs))))] [] := by
    refine lpB (fun n t1 => (sI t1).length) (fun n t1 ih h1 s s13 pk hM1 ht1 hr1 hw1 hp1 hp2 he => ?_)
    cases hn : nst t1 (bX bs) with
    | none =>
      refine go_iload_n hC dX3_picksNearest_30 rfl ?_
      refine go_iconst hC (-1) dX3_picksNearest_31 (by decide) ?_
      refine go_icmp_eq hC 64 dX3_picksNearest_32 (by decide) (fun _ => ?_) (fun z => absurd rfl z)
      refine go_iload_n hC dX3_picksNearest_64 rfl ?_
      refine go_iret hC hF dX3_picksNearest_65 rfl rfl ?_
      rw [pckN_0 hn] at he
      rw [he]
      exact ⟨rfl, s, s13, hM1, ht1, hr1⟩
    | some k =>
      obtain ⟨hk1, hk2⟩ := nst_ok hn
      rw [hbl] at hk1
      obtain ⟨x, hx, -⟩ := get_of hk1
      have ex := bX_get hx
      have eg := hb1 k x hx
      rw [ex] at hk2
      obtain ⟨y, hy⟩ := reason0 hk2
      have hl := len_pck hy
      have hne : ¬ posI (some k) = -1 := fun z => absurd (congrArg Int32.toInt z) (by show ¬ (nI k).toInt = -1; rw [nI_toInt (by omega)]; omega)
      rw [pckN_s hn, ex] at he
      refine go_iload_n hC dX3_picksNearest_30 rfl ?_
      refine go_iconst hC (-1) dX3_picksNearest_31 (by decide) ?_
      refine go_icmp_eq hC 64 dX3_picksNearest_32 (by decide) (fun z => absurd z hne) (fun _ => ?_)
      refine go_aload_n hC dX3_picksNearest_35 rfl ?_
      refine go_get hC kX3 hM1.1 13 q1765 dX3_picksNearest_36 rfl (by decide) (Or.inl rfl) ?_
      refine go_iload_n hC dX3_picksNearest_39 rfl ?_
      refine go_iconst hC (1) dX3_picksNearest_40 (by decide) ?_
      refine go_zast hC k hM1.2.2.2.2.2.2.2.2.1 dX3_picksNearest_41 (by first | rfl | (simp only [nI_add, pk_mul, nI_1, Int32.add_zero]; done) | (simp only [nI_add, pk_mul, nI_1, Int32.add_zero]; exact congrArg nI (by omega))) (by omega) (by omega) ?_
      have hM2 := hM1.u13 (upd s13 k 1)
      have ht2 : Mto h _ m := ht1.st (e' := za G 6 (upd s13 k 1)) hM1.2.2.2.2.2.2.2.2.1
      have hM2 : MRep G (hu h1 (A 13) (m, 13) (za G 6 (upd s13 k 1))) m A f hs (va_up (va_up g 1 s) 13 (upd s13 k 1)) := by
        have e : va_up (va_up (va_up g 1 s) 13 s13) 13 (upd s13 k 1) = va_up (va_up g 1 s) 13 (upd s13 k 1) := bx_uu _ _ _ _
        rw [← e]; exact hM2
      refine go_aload_n hC dX3_picksNearest_42 rfl ?_
      refine go_aload_n hC dX3_picksNearest_43 rfl ?_
      refine go_get hC kX3 hM2.1 9 q1761 dX3_picksNearest_44 rfl (by decide) (Or.inl rfl) ?_
      refine go_iload_n hC dX3_picksNearest_47 rfl ?_
      refine go_iald hC k hM2.2.2.2.2.2.1 dX3_picksNearest_48 (by first | rfl | (simp only [nI_add, pk_mul, nI_1, Int32.add_zero]; done) | (simp only [nI_add, pk_mul, nI_1, Int32.add_zero]; exact congrArg nI (by omega))) (by omega) (by omega) ?_
      rw [show va_up (va_up g 1 s) 13 _ 9 k = nI x from eg]
      refine go_callV0 hC (c_X3_picks hM2 hr1 hw1 (nI x) hy) (lw_V q1870 q1872 qs44 q83 q1873) hM2.1 rfl dX3_picksNearest_49 1 rfl (by decide +kernel) rfl ⟨Nat.le_of_ble_eq_true rfl, Nat.le_of_ble_eq_true rfl⟩ (Nat.le_of_ble_eq_true rfl) ⟨rfl, rfl⟩ ?_
      rintro _ _ ⟨rfl, s2, rfl, hr2⟩
      refine go_pop hC dX3_picksNearest_52 rfl ?_
      refine go_iinc hC (v := nI (n + 1)) dX3_picksNearest_53 rfl (nI_1 _) (by decide) ?_
      have hM3 : MRep G (hS G (hu h1 (A 13) (m, 13) (za G 6 (upd s13 k 1))) m A s2) m A f hs (va_up (va_up g 1 s2) 13 (upd s13 k 1)) := by
        have e : va_up (va_up (va_up g 1 s) 13 (upd s13 k 1)) 1 s2 = va_up (va_up g 1 s2) 13 (upd s13 k 1) := by
          funext q
          by_cases q1 : q = 1
          · subst q1; rfl
          · by_cases q13 : q = 13
            · subst q13; rfl
            · simp [va_up, q1, q13]
        rw [← e]; exact hM2.s s2
      have ht3 : Mto h (hS G (hu h1 (A 13) (m, 13) (za G 6 (upd s13 k 1))) m A s2) m := ht2.st hM2.2.1
      have hw3 := WF_pck hw1 (nI x)
      have q1 : ∀ i, i < bs.length → upd s13 k 1 i = bI (if i = k then true else pk i) := by
        intro i hi
        by_cases q : i = k
        · subst q; rw [pk_us, if_pos rfl]; rfl
        · rw [pk_un q, if_neg q]; exact hp1 i hi
      have q2 : ∀ i, i < bs.length → (if i = k then true else pk i) = true → itm (sI (pck t1 (nI x))) ((bX bs).getD i 0) = none := by
        intro i hi hz
        by_cases q : i = k
        · subst q; rw [ex]; exact itm_pck hw1 hc
        · rw [if_neg q] at hz; exact itm_none_pck (hp2 i hi hz)
      generalize hS G (hu h1 (A 13) (m, 13) (za G 6 (upd s13 k 1))) m A s2 = h3 at hM3 ht3
      refine go_aload_n hC dX3_picksNearest_56 rfl ?_
      refine go_callV0 hC (c_X3_nearest hM3 hr2 hw3 bs ⟨hb1, hb2, hb3⟩ (fun i => if i = k then true else pk i) q1 q2) (lw_V q1941 q1943 qs54 q83 q1944) hM3.1 rfl dX3_picksNearest_57 0 rfl (by decide +kernel) rfl ⟨Nat.le_of_ble_eq_true rfl, Nat.le_of_ble_eq_true rfl⟩ (Nat.le_of_ble_eq_true rfl) ⟨rfl, rfl⟩ ?_
      rintro _ _ ⟨rfl, rfl⟩
      refine go_istore_n hC dX3_picksNearest_60 (by decide) ?_
      refine go_goto hC 30 dX3_picksNearest_61 (by decide) ?_
      exact ih (n + 1) (pck t1 (nI x)) (by omega) h3 s2 _ _ hM3 ht3 hr2 hw3 q1 q2 (by rw [he, Nat.add_assoc, Nat.add_comm 1])
  have loop1 : ∀ (i : Nat) (s13 : Nat → Int32), i ≤ bs.length → (∀ j, j < i → s13 j = 0) → Go X G (hu h (A 13) (m, 13) (za G 6 s13)) 0 0 2 [some (.ref m), some (.int (nI i)), none] [] := by
    refine lpB (fun i _ => bs.length - i) (fun i s13 ih hi hz => ?_)
    have hM1 := hM.u13 s13
    refine go_iload_n hC dX3_picksNearest_2 rfl ?_
    refine go_aload_n hC dX3_picksNearest_3 rfl ?_
    refine go_get hC kX3 hM1.1 10 q1762 dX3_picksNearest_4 rfl (by decide) (Or.inl rfl) ?_
    refine go_N_ge hC 23 dX3_picksNearest_7 (by decide) rfl hb2 (by omega) (by omega) (fun c7 => ?_) (fun c7 => ?_)
    · have hM2 : MRep G (hu h (A 13) (m, 13) (za G 6 s13)) m A f hs (va_up (va_up g 1 (g 1)) 13 s13) := by
        have e : va_up g 1 (g 1) = g := by funext q; by_cases z : q = 1 <;> simp [va_up, z]
        rw [e]; exact hM1
      have q1 : ∀ i, i < bs.length → s13 i = bI false := fun j hj => hz j (by omega)
      have ht : Mto h (hu h (A 13) (m, 13) (za G 6 s13)) m := Mto.rf.st hM.2.2.2.2.2.2.2.2.1
      generalize hu h (A 13) (m, 13) (za G 6 s13) = h1 at hM1 hM2 ht
      refine go_iconst hC (0) dX3_picksNearest_23 (by decide) ?_
      refine go_istore_n hC dX3_picksNearest_24 (by decide) ?_
      refine go_aload_n hC dX3_picksNearest_25 rfl ?_
      refine go_callV0 hC (c_X3_nearest hM2 hr hw bs ⟨hb1, hb2, hb3⟩ (fun _ => false) q1 (fun _ _ q => by cases q)) (lw_V q1941 q1943 qs54 q83 q1944) hM2.1 rfl dX3_picksNearest_26 0 rfl (by decide +kernel) rfl ⟨Nat.le_of_ble_eq_true rfl, Nat.le_of_ble_eq_true rfl⟩ (Nat.le_of_ble_eq_true rfl) ⟨rfl, rfl⟩ ?_
      rintro _ _ ⟨rfl, rfl⟩
      refine go_istore_n hC dX3_picksNearest_29 (by decide) ?_
      exact loop2 0 t h1 (g 1) s13 _ hM2 ht hr hw q1 (fun _ _ q => by cases q) (by rw [Nat.zero_add])
    · refine go_aload_n hC dX3_picksNearest_10 rfl ?_
      refine go_get hC kX3 hM1.1 13 q1765 dX3_picksNearest_11 rfl (by decide) (Or.inl rfl) ?_
      refine go_iload_n hC dX3_picksNearest_14 rfl ?_
      refine go_iconst hC (0) dX3_picksNearest_15 (by decide) ?_
      refine go_zast hC i hu_eq dX3_picksNearest_16 (by first | rfl | (simp only [nI_add, pk_mul, nI_1, Int32.add_zero]; done) | (simp only [nI_add, pk_mul, nI_1, Int32.add_zero]; exact congrArg nI (by omega))) (by omega) (by omega) ?_
      rw [hu_hu]
      refine go_iinc hC (v := nI (i + 1)) dX3_picksNearest_17 rfl (nI_1 _) (by decide) ?_
      refine go_goto hC 2 dX3_picksNearest_20 (by decide) ?_
      refine ih (i + 1) _ (by omega) (by omega) (fun j hj => ?_)
      by_cases q : j = i
      · rw [q, pk_us]; rfl
      · rw [pk_un q]; exact hz j (by omega)
  have e0 : hu h (A 13) (m, 13) (za G 6 (g 13)) = h := hu_id hM.2.2.2.2.2.2.2.2.1
  refine go_iconst hC (0) dX3_picksNearest_0 (by decide) ?_
  refine go_istore_n hC dX3_picksNearest_1 (by decide) ?_
  rw [← e0]
  exact loop1 0 (g 13) (Nat.zero_le _) (fun j hj => absurd hj (Nat.not_lt_zero _))
end M4
