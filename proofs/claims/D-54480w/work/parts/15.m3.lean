/-! THE REFERENCE: batches -/
set_option maxRecDepth 100000
theorem itm_pos {l : List It} {x : Int32} {y : It} (h : itm l x = some y) : ∃ i, pos l x = some i ∧ l[i]? = some y ∧ nI y.1 = x := by
  rcases pos_itm l x with ⟨p1, p2⟩ | ⟨i, y', p1, p2, p3, p4⟩
  · rw [p2] at h; cases h
  · rw [p2] at h; cases h; exact ⟨i, p1, p3, p4⟩
theorem reason0 {t : St} {x : Int32} (h : reason t x = 0) : ∃ y, itm (sI t) x = some y := by
  unfold reason at h
  cases hi : itm (sI t) x with
  | none => rw [hi] at h; exact absurd (show (1 : Int32) = 0 from h) (by decide)
  | some y => exact ⟨y, rfl⟩
theorem row_pck {s s' : Nat → Int32} {t : St} {x : Int32} {y : It} {i : Nat} (hi : itm (sI t) x = some y) (hp : pos (sI t) x = some i) (hr : Row s (gos (trn t y.2.2) i)) (e : s' = upd s 7 (s 7 + 1)) : Row s' (pck t x) := by
  subst e
  have ep : pck t x = (fun k => if k = 7 then sN t 7 + 1 else sN (trn t y.2.2) k, sJ t, y.2.2, sC t, (sI t).eraseIdx i) := by
    unfold pck; rw [hi, ← pos_erase hp]
  rw [ep]
  obtain ⟨r1, r2, r3, r4, r5, r6, r7⟩ := hr
  refine ⟨fun k hk => ?_, ?_, fun k h1 h2 => ?_, ?_, ?_, fun k hk => ?_, fun i x hx => ?_⟩
  · rw [pk_un (by omega), r1 k hk]
    show _ = ite (k = 7) _ _
    rw [if_neg (show ¬ k = 7 by omega)]; rfl
  · rw [pk_un (by omega)]; exact r2
  · show _ = ite (k = 7) _ _
    by_cases q : k = 7
    · subst q
      rw [pk_us, r3 7 (by omega) (by omega), if_pos rfl]; rfl
    · rw [pk_un q, if_neg q]; exact r3 k h1 h2
  · rw [pk_un (by omega)]; exact r4
  · rw [pk_un (by omega)]; exact r5
  · rw [pk_un (by omega)]; exact r6 k hk
  · rw [pk_un (by omega), pk_un (by omega), pk_un (by omega)]; exact r7 i x hx
/-- picks in the order told, up to the first that is refused -/
def pby : St → List Int32 → Nat × St
  | t, [] => (0, t)
  | t, x :: r => if reason t x = 0 then ((pby (pck t x) r).1 + 1, (pby (pck t x) r).2) else (0, t)
theorem WF_pby {c : Nat} : ∀ {l : List Int32} {t : St}, WF c t → WF c (pby t l).2
  | [], t, h => h
  | x :: r, t, h => by
    unfold pby
    split
    · exact WF_pby (WF_pck h x)
    · exact h
theorem pby_le : ∀ (l : List Int32) (t : St), (pby t l).1 ≤ l.length
  | [], t => Nat.le_refl _
  | x :: r, t => by
    unfold pby
    split
    · have := pby_le r (pck t x); simp only [List.length_cons]; omega
    · exact Nat.zero_le _
theorem pby_n {t : St} {x : Int32} {r : List Int32} (h : ¬ reason t x = 0) : pby t (x :: r) = (0, t) := by show ite _ _ _ = _; rw [if_neg h]
theorem pby_c {t : St} {x : Int32} {r : List Int32} (h : reason t x = 0) : pby t (x :: r) = ((pby (pck t x) r).1 + 1, (pby (pck t x) r).2) := by show ite _ _ _ = _; rw [if_pos h]
/-- an array holds a list of small numbers at its front -/
def arL (s : Nat → Int32) (l : List Nat) : Prop := ∀ (j x : Nat), l[j]? = some x → s j = nI x
/-- the numbers of a batch in an order of its places -/
def inO (bs p : List Nat) : List Int32 := p.map (fun j => nI (bs.getD j 0))
theorem getD_of {l : List Nat} {i x : Nat} (h : l[i]? = some x) : l.getD i 0 = x := by simp [List.getD, h]
section M3
variable {G : GT} {h : PH} {m : Nat} {A : Nat → Nat} {f : Nat → Int32} {hs : Int64} {g : Nat → Nat → Int32} {t : St} {c : Nat}
theorem c_X3_picks (hM : MRep G h m A f hs g) (hr : Row (g 1) t) (hw : WF c t) (x : Int32) {y : It} (hi : itm (sI t) x = some y) : CT G yX3_picks cX3_picks 4 (some .int) (rmL 6 0 0) [.ref m, .int x] h (fun v h' => v = some (.int (absI (way t y.2.2))) ∧ ∃ s, hS G h m A s = h' ∧ Row s (pck t x)) noX := by
  refine CT_of [some (.ref m), some (.int x), none, none] (by decide +kernel) rfl (Nat.le_of_ble_eq_true rfl) (fun X hC hF hE => ?_)
  have hn := hw.n
  obtain ⟨i, hp, hy, hx⟩ := itm_pos hi
  have hil := (List.getElem?_eq_some_iff.mp hy).1
  obtain ⟨e0, e1, e2⟩ := hr.2.2.2.2.2.2 i y hy
  have hy2 := (hw.it hy).2
  refine go_aload_n hC dX3_picks_0 rfl ?_
  refine go_iload_n hC dX3_picks_1 rfl ?_
  refine go_callV0 hC (c_X3_stepsTo hM hr hw x hi) (lw_V q1874 q1876 qs45 q83 q1877) hM.1 rfl dX3_picks_2 1 rfl (by decide +kernel) rfl ⟨Nat.le_of_ble_eq_true rfl, Nat.le_of_ble_eq_true rfl⟩ (Nat.le_of_ble_eq_true rfl) ⟨rfl, rfl⟩ ?_
  rintro _ _ ⟨rfl, rfl⟩
  refine go_istore_n hC dX3_picks_5 (by decide) ?_
  refine go_aload_n hC dX3_picks_6 rfl ?_
  refine go_iload_n hC dX3_picks_7 rfl ?_
  refine go_callV0 hC (c_X3_placeOfItem hM hr hw x) (lw_V q1850 q1852 qs40 q83 q1853) hM.1 rfl dX3_picks_8 1 rfl (by decide +kernel) rfl ⟨Nat.le_of_ble_eq_true rfl, Nat.le_of_ble_eq_true rfl⟩ (Nat.le_of_ble_eq_true rfl) ⟨rfl, rfl⟩ ?_
  rintro _ _ ⟨rfl, rfl⟩
  rw [hp]
  refine go_istore_n hC dX3_picks_11 (by decide) ?_
  refine go_aload_n hC dX3_picks_12 rfl ?_
  refine go_aload_n hC dX3_picks_13 rfl ?_
  refine go_iload_n hC dX3_picks_14 rfl ?_
  refine go_iconst hC (nI 2) dX3_picks_15 (by decide) ?_
  refine go_callV0 hC (c_X3_of hM i 2 (by omega) (by omega)) (lw_V q1823 q1825 qs35 q83 q1826) hM.1 rfl dX3_picks_16 2 rfl (by decide +kernel) rfl ⟨Nat.le_of_ble_eq_true rfl, Nat.le_of_ble_eq_true rfl⟩ (Nat.le_of_ble_eq_true rfl) ⟨rfl, rfl⟩ ?_
  rintro _ _ ⟨rfl, rfl⟩
  rw [e2]
  refine go_callV0 hC (c_X3_turns hM hr hw y.2.2 hy2) (lw_V q1881 q1883 qs46 q83 q1884) hM.1 rfl dX3_picks_19 1 rfl (by decide +kernel) rfl ⟨Nat.le_of_ble_eq_true rfl, Nat.le_of_ble_eq_true rfl⟩ (Nat.le_of_ble_eq_true rfl) ⟨rfl, rfl⟩ ?_
  rintro _ _ ⟨rfl, s1, rfl, hr1⟩
  have hM1 := hM.s s1
  refine go_aload_n hC dX3_picks_22 rfl ?_
  refine go_iload_n hC dX3_picks_23 rfl ?_
  refine go_callV0 hC (c_X3_goes hM1 hr1 (WF_trn hw hy2).d i hil) (lw_V q1838 q1840 qs38 q83 q1841) hM1.1 rfl dX3_picks_24 1 rfl (by decide +kernel) rfl ⟨Nat.le_of_ble_eq_true rfl, Nat.le_of_ble_eq_true rfl⟩ (Nat.le_of_ble_eq_true rfl) ⟨rfl, rfl⟩ ?_
  rintro _ _ ⟨rfl, s2, rfl, hr2⟩
  rw [show hS G (hS G h m A s1) m A s2 = hS G h m A s2 from hu_hu]
  have hM2 := hM.s s2
  refine go_aload_n hC dX3_picks_27 rfl ?_
  refine go_get hC kX3 hM2.1 1 q1753 dX3_picks_28 rfl (by decide) (Or.inl rfl) ?_
  refine go_bipush hC (nI 7) dX3_picks_31 (by decide) ?_
  refine go_dup2 hC dX3_picks_33 rfl rfl ?_
  refine go_iald hC 7 hu_eq dX3_picks_34 (by first | rfl | (simp only [nI_add, pk_mul, nI_1, Int32.add_zero]; done) | (simp only [nI_add, pk_mul, nI_1, Int32.add_zero]; exact congrArg nI (by omega))) (by omega) (by omega) ?_
  refine go_iconst hC (1) dX3_picks_35 (by decide) ?_
  refine go_iadd hC dX3_picks_36 ?_
  refine go_iast hC 7 hu_eq dX3_picks_37 (by first | rfl | (simp only [nI_add, pk_mul, nI_1, Int32.add_zero]; done) | (simp only [nI_add, pk_mul, nI_1, Int32.add_zero]; exact congrArg nI (by omega))) (by omega) (by omega) ?_
  rw [hu_hu]
  refine go_iload_n hC dX3_picks_38 rfl ?_
  refine go_iret hC hF dX3_picks_39 rfl rfl ?_
  exact ⟨rfl, _, rfl, row_pck hi hp hr2 rfl⟩
theorem c_X3_picksBy (hM : MRep G h m A f hs g) (hr : Row (g 1) t) (hw : WF c t) (bs p : List Nat) (a j : Nat) (s : Nat → Int32) (ha : h a = some ((m, j), ia G 6 s)) (hj : j ≠ 1) (hb : arL (g 9) bs) (hk : f 10 = nI bs.length) (hbl : bs.length ≤ 6) (hp : arL s p) (hpl : p.length = bs.length) (hpb : ∀ x ∈ p, x < bs.length) : CT G yX3_picksBy cX3_picksBy 3 (some .int) (rmL 7 0 0) [.ref m, .ref a] h (fun v h' => v = some (.int (nI (pby t (inO bs p)).1)) ∧ ∃ s, hS G h m A s = h' ∧ Row s (pby t (inO bs p)).2) noX := by
  refine CT_of [some (.ref m), some (.ref a), none] (by decide +kernel) rfl (Nat.le_of_ble_eq_true rfl) (fun X hC hF hE => ?_)
  have loop : ∀ (n : Nat) (s1 : Nat → Int32) (t1 : St), n ≤ bs.length → Row s1 t1 → WF c t1 → pby t (inO bs p) = (n + (pby t1 ((inO bs p).drop n)).1, (pby t1 ((inO bs p).drop n)).2) → Go X G (hS G h m A s1) 0 0 2 [some (.ref m), some (.ref a), some (.int (nI n))] [] := by
    refine lpC (fun n _ _ => bs.length - n) (fun n s1 t1 ih hn hr1 hw1 he => ?_)
    have hM1 := hM.s s1
    have ha1 : hS G h m A s1 a = some ((m, j), ia G 6 s) := hu_k ha hM.2.1 (ow_ne hj)
    have hil : (inO bs p).length = bs.length := by unfold inO; rw [List.length_map, hpl]
    refine go_iload_n hC dX3_picksBy_2 rfl ?_
    refine go_aload_n hC dX3_picksBy_3 rfl ?_
    refine go_get hC kX3 hM1.1 10 q1762 dX3_picksBy_4 rfl (by decide) (Or.inl rfl) ?_
    refine go_N_ge hC 44 dX3_picksBy_7 (by decide) rfl hk (by omega) (by omega) (fun c7 => ?_) (fun c7 => ?_)
    · refine go_iload_n hC dX3_picksBy_44 rfl ?_
      refine go_iret hC hF dX3_picksBy_45 rfl rfl ?_
      rw [List.drop_eq_nil_of_le (by omega)] at he
      rw [he]
      refine ⟨?_, s1, rfl, hr1⟩
      rw [show n = bs.length by omega]; rfl
    · have hnp : n < p.length := by omega
      obtain ⟨q, hq, -⟩ := get_of hnp
      have hq6 : q < bs.length := hpb q (List.mem_of_getElem? hq)
      obtain ⟨b, hbq, -⟩ := get_of hq6
      have ex : (inO bs p)[n]? = some (nI b) := by unfold inO; rw [List.getElem?_map, hq]; show some (nI (bs.getD q 0)) = _; rw [getD_of hbq]
      have ed : (inO bs p).drop n = nI b :: (inO bs p).drop (n + 1) := by
        obtain ⟨z, hz, hd⟩ := get_of (l := inO bs p) (i := n) (by omega)
        rw [ex] at hz; cases hz; exact hd
      have es : s n = nI q := hp n q hq
      have eb : g 9 q = nI b := hb q b hbq
      rw [ed] at he
      refine go_aload_n hC dX3_picksBy_10 rfl ?_
      refine go_aload_n hC dX3_picksBy_11 rfl ?_
      refine go_get hC kX3 hM1.1 9 q1761 dX3_picksBy_12 rfl (by decide) (Or.inl rfl) ?_
      refine go_aload_n hC dX3_picksBy_15 rfl ?_
      refine go_iload_n hC dX3_picksBy_16 rfl ?_
      refine go_iald hC n ha1 dX3_picksBy_17 (by first | rfl | (simp only [nI_add, pk_mul, nI_1, Int32.add_zero]; done) | (simp only [nI_add, pk_mul, nI_1, Int32.add_zero]; exact congrArg nI (by omega))) (by omega) (by omega) ?_
      rw [es]
      refine go_iald hC q hM1.2.2.2.2.2.1 dX3_picksBy_18 (by first | rfl | (simp only [nI_add, pk_mul, nI_1, Int32.add_zero]; done) | (simp only [nI_add, pk_mul, nI_1, Int32.add_zero]; exact congrArg nI (by omega))) (by omega) (by omega) ?_
      rw [show va_up g 1 s1 9 q = nI b from eb]
      refine go_callV0 hC (c_X3_reason hM1 hr1 hw1 (nI b)) (lw_V q1858 q1860 qs41 q83 q1861) hM1.1 rfl dX3_picksBy_19 1 rfl (by decide +kernel) rfl ⟨Nat.le_of_ble_eq_true rfl, Nat.le_of_ble_eq_true rfl⟩ (Nat.le_of_ble_eq_true rfl) ⟨rfl, rfl⟩ ?_
      rintro _ _ ⟨rfl, rfl⟩
      refine go_if_ne hC 44 dX3_picksBy_22 (by decide) (fun c22 => ?_) (fun c22 => ?_)
      · refine go_iload_n hC dX3_picksBy_44 rfl ?_
        refine go_iret hC hF dX3_picksBy_45 rfl rfl ?_
        rw [pby_n c22] at he
        rw [he]
        exact ⟨rfl, s1, rfl, hr1⟩
      · obtain ⟨y, hy⟩ := reason0 c22
        rw [pby_c c22] at he
        refine go_aload_n hC dX3_picksBy_25 rfl ?_
        refine go_aload_n hC dX3_picksBy_26 rfl ?_
        refine go_get hC kX3 hM1.1 9 q1761 dX3_picksBy_27 rfl (by decide) (Or.inl rfl) ?_
        refine go_aload_n hC dX3_picksBy_30 rfl ?_
        refine go_iload_n hC dX3_picksBy_31 rfl ?_
        refine go_iald hC n ha1 dX3_picksBy_32 (by first | rfl | (simp only [nI_add, pk_mul, nI_1, Int32.add_zero]; done) | (simp only [nI_add, pk_mul, nI_1, Int32.add_zero]; exact congrArg nI (by omega))) (by omega) (by omega) ?_
        rw [es]
        refine go_iald hC q hM1.2.2.2.2.2.1 dX3_picksBy_33 (by first | rfl | (simp only [nI_add, pk_mul, nI_1, Int32.add_zero]; done) | (simp only [nI_add, pk_mul, nI_1, Int32.add_zero]; exact congrArg nI (by omega))) (by omega) (by omega) ?_
        rw [show va_up g 1 s1 9 q = nI b from eb]
        refine go_callV0 hC (c_X3_picks hM1 hr1 hw1 (nI b) hy) (lw_V q1870 q1872 qs44 q83 q1873) hM1.1 rfl dX3_picksBy_34 1 rfl (by decide +kernel) rfl ⟨Nat.le_of_ble_eq_true rfl, Nat.le_of_ble_eq_true rfl⟩ (Nat.le_of_ble_eq_true rfl) ⟨rfl, rfl⟩ ?_
        rintro _ _ ⟨rfl, s2, rfl, hr2⟩
        refine go_pop hC dX3_picksBy_37 rfl ?_
        refine go_iinc hC (v := nI (n + 1)) dX3_picksBy_38 rfl (nI_1 _) (by decide) ?_
        refine go_goto hC 2 dX3_picksBy_41 (by decide) ?_
        rw [show hS G (hS G h m A s1) m A s2 = hS G h m A s2 from hu_hu]
        refine ih (n + 1) s2 _ (by omega) (by omega) hr2 (WF_pck hw1 _) ?_
        rw [he, Nat.add_assoc, Nat.add_comm 1]
  have e0 : hS G h m A (g 1) = h := hu_id hM.2.1
  refine go_iconst hC (0) dX3_picksBy_0 (by decide) ?_
  refine go_istore_n hC dX3_picksBy_1 (by decide) ?_
  rw [← e0]
  exact loop 0 (g 1) t (Nat.zero_le _) hr hw (by rw [List.drop_zero, Nat.zero_add])
end M3
