/-! THE REFERENCE: its row is changed -/
set_option maxRecDepth 100000
theorem hu_hu {h : PH} {a : Nat} {o o2 : Ow} {e e2 : va_E} : hu (hu h a o e) a o2 e2 = hu h a o2 e2 := by
  funext q
  by_cases z : q = a
  · subst z; rw [hu_eq, hu_eq]
  · rw [hu_ne z, hu_ne z, hu_ne z]
theorem hu_id {h : PH} {a : Nat} {o : Ow} {e : va_E} (ha : h a = some (o, e)) : hu h a o e = h := by
  funext q
  by_cases z : q = a
  · subst z; rw [hu_eq]; exact ha.symm
  · rw [hu_ne z]
theorem ad_ne {h : PH} {a b : Nat} {o o2 : Ow} {e e2 : va_E} (ha : h a = some (o, e)) (hb : h b = some (o2, e2)) (n : o2 ≠ o) : b ≠ a := by
  intro z
  subst z
  rw [ha] at hb
  cases hb
  exact n rfl
theorem hu_k {h : PH} {a b : Nat} {o o2 o3 : Ow} {e e2 e3 : va_E} (hb : h b = some (o2, e2)) (ha : h a = some (o, e)) (n : o2 ≠ o) : hu h a o3 e3 b = some (o2, e2) := by
  rw [hu_ne (ad_ne ha hb n)]; exact hb
theorem ow_ne {m i j : Nat} (h : i ≠ j) : ((m, i) : Ow) ≠ (m, j) := fun z => h (congrArg Prod.snd z)
/-- the heap with another row s -/
abbrev hS (G : GT) (h : PH) (m : Nat) (A : Nat → Nat) (s : Nat → Int32) : PH := hu h (A 1) (m, 1) (ia G 142 s)
theorem MRep.s {G : GT} {h : PH} {m : Nat} {A : Nat → Nat} {f : Nat → Int32} {hs : Int64} {g : Nat → Nat → Int32} (hM : MRep G h m A f hs g) (s : Nat → Int32) : MRep G (hS G h m A s) m A f hs (va_up g 1 s) := by
  obtain ⟨h0, h1, h2, h3, h5, h9, h11, h12, h13, h14⟩ := hM
  exact ⟨hu_k h0 h1 (ow_ne (by decide)), hu_eq, hu_k h2 h1 (ow_ne (by decide)), hu_k h3 h1 (ow_ne (by decide)), hu_k h5 h1 (ow_ne (by decide)), hu_k h9 h1 (ow_ne (by decide)), hu_k h11 h1 (ow_ne (by decide)), hu_k h12 h1 (ow_ne (by decide)), hu_k h13 h1 (ow_ne (by decide)), hu_k h14 h1 (ow_ne (by decide))⟩
/-- an item more -/
def com (t : St) (x : It) : St := (sN t, sJ t, sW t, sC t, sI t ++ [x])
def gos (t : St) (i : Nat) : St := (sN t, sJ t, sW t, sC t, (sI t).eraseIdx i)
def trn (t : St) (d : Nat) : St := (fun k => if k = 4 then sN t 4 + absI (way t d) else if k = 5 then sN t 5 + (if 0 ≤ way t d then 0 else -(way t d)) else if k = 6 then sN t 6 + (if 6 < way t d then 1 else if -5 ≤ way t d then 0 else 1) else sN t k, sJ t, d, sC t, sI t)
def pck (t : St) (x : Int32) : St := match itm (sI t) x with
  | none => t
  | some y => (fun k => if k = 7 then sN t 7 + 1 else sN (trn t y.2.2) k, sJ t, y.2.2, sC t, (sI t).eraseP (isX x))
theorem gos_com (t : St) (x : It) : gos (com t x) (sI t).length = t := by
  simp only [gos, com]
  rw [List.eraseIdx_append_of_length_le (Nat.le_refl _)]
  simp
theorem WF.mono {c c' : Nat} {t : St} (h : WF c t) (hc : c ≤ c') : WF c' t := ⟨h.1, Nat.le_trans h.2.1 hc, h.2.2⟩
theorem WF_trn {c : Nat} {t : St} (h : WF c t) {d : Nat} (hd : d < 12) : WF c (trn t d) := ⟨hd, h.2.1, h.2.2.1, h.2.2.2.1, h.2.2.2.2.1, h.2.2.2.2.2⟩
theorem WF_gos {c : Nat} {t : St} (h : WF c t) (i : Nat) : WF c (gos t i) := by
  refine ⟨h.1, h.2.1, Nat.le_trans (List.length_eraseIdx_le _ _) h.2.2.1, fun x hx => h.2.2.2.1 x (List.mem_of_mem_eraseIdx hx), ?_, h.2.2.2.2.2⟩
  exact List.Sublist.nodup (List.Sublist.map _ (List.eraseIdx_sublist _ _)) h.2.2.2.2.1
theorem pos_erase {l : List It} {x : Int32} {i : Nat} (h : pos l x = some i) : l.eraseP (isX x) = l.eraseIdx i := by
  rw [List.eraseP_eq_eraseIdx]
  have : l.findIdx? (isX x) = some i := h
  rw [this]
theorem WF_pck {c : Nat} {t : St} (h : WF c t) (x : Int32) : WF c (pck t x) := by
  unfold pck
  cases hi : itm (sI t) x with
  | none => exact h
  | some y =>
    have hy : y ∈ sI t := List.mem_of_find?_eq_some hi
    refine ⟨(h.2.2.2.1 y hy).1.2, h.2.1, Nat.le_trans (List.length_eraseP_le) h.2.2.1, fun z hz => h.2.2.2.1 z (List.mem_of_mem_eraseP hz), ?_, h.2.2.2.2.2⟩
    exact List.Sublist.nodup (List.Sublist.map _ List.eraseP_sublist) h.2.2.2.2.1
theorem row_com {s s' : Nat → Int32} {t : St} {n d : Nat} {w : Int32} (hr : Row s t) (hn : (sI t).length ≤ 40) (e : s' = upd (upd (upd (upd s (22 + 3 * (sI t).length) (nI n)) (22 + 3 * (sI t).length + 1) w) (22 + 3 * (sI t).length + 2) (nI d)) 9 (nI ((sI t).length + 1))) : Row s' (com t (n, w, d)) := by
  subst e
  obtain ⟨r1, r2, r3, r4, r5, r6, r7⟩ := hr
  refine ⟨fun k hk => ?_, ?_, fun k h1 h2 => ?_, ?_, ?_, fun k hk => ?_, fun i x hx => ?_⟩
  · rw [pk_un (by omega), pk_un (by omega), pk_un (by omega), pk_un (by omega)]; exact r1 k hk
  · rw [pk_un (by omega), pk_un (by omega), pk_un (by omega), pk_un (by omega)]; exact r2
  · rw [pk_un (by omega), pk_un (by omega), pk_un (by omega), pk_un (by omega)]; exact r3 k h1 h2
  · rw [pk_un (by omega), pk_un (by omega), pk_un (by omega), pk_un (by omega)]; exact r4
  · rw [pk_us]; show nI ((sI t).length + 1) = nI (sI t ++ [(n, w, d)]).length; rw [List.length_append]; rfl
  · rw [pk_un (by omega), pk_un (by omega), pk_un (by omega), pk_un (by omega)]; exact r6 k hk
  · have hil : i < (sI t).length + 1 := by have := (List.getElem?_eq_some_iff.mp (show (sI t ++ [(n, w, d)])[i]? = some x from hx)).1; rwa [List.length_append] at this
    rcases Nat.lt_or_ge i (sI t).length with q | q
    · have hx' : (sI t)[i]? = some x := by
        have : (sI t ++ [(n, w, d)])[i]? = some x := hx
        rwa [List.getElem?_append_left q] at this
      obtain ⟨a, b, c⟩ := r7 i x hx'
      refine ⟨?_, ?_, ?_⟩
      · rw [pk_un (by omega), pk_un (by omega), pk_un (by omega), pk_un (by omega)]; exact a
      · rw [pk_un (by omega), pk_un (by omega), pk_un (by omega), pk_un (by omega)]; exact b
      · rw [pk_un (by omega), pk_un (by omega), pk_un (by omega), pk_un (by omega)]; exact c
    · have hie : i = (sI t).length := by omega
      subst hie
      have : (sI t ++ [(n, w, d)])[(sI t).length]? = some x := hx
      rw [List.getElem?_append_right (Nat.le_refl _), Nat.sub_self] at this
      cases this
      refine ⟨?_, ?_, ?_⟩
      · rw [pk_un (by omega), pk_un (by omega), pk_un (by omega), pk_us]
      · rw [pk_un (by omega), pk_un (by omega), pk_us]
      · rw [pk_un (by omega), pk_us]
theorem row_trn {s s' : Nat → Int32} {t : St} {d : Nat} (hr : Row s t) (e : s' = upd (upd (upd (upd s 4 (sN (trn t d) 4)) 5 (sN (trn t d) 5)) 6 (sN (trn t d) 6)) 3 (nI d)) : Row s' (trn t d) := by
  subst e
  obtain ⟨r1, r2, r3, r4, r5, r6, r7⟩ := hr
  refine ⟨fun k hk => ?_, ?_, fun k h1 h2 => ?_, ?_, ?_, fun k hk => ?_, fun i x hx => ?_⟩
  · rw [pk_un (by omega), pk_un (by omega), pk_un (by omega), pk_un (by omega), r1 k hk]
    show sN t k = ite (k = 4) _ _
    rw [if_neg (show ¬ k = 4 by omega), if_neg (show ¬ k = 5 by omega), if_neg (show ¬ k = 6 by omega)]
  · rw [pk_us]; rfl
  · rcases (show k = 4 ∨ k = 5 ∨ k = 6 ∨ k = 7 by omega) with rfl | rfl | rfl | rfl
    · rw [pk_un (by omega), pk_un (by omega), pk_un (by omega), pk_us]
    · rw [pk_un (by omega), pk_un (by omega), pk_us]
    · rw [pk_un (by omega), pk_us]
    · rw [pk_un (by omega), pk_un (by omega), pk_un (by omega), pk_un (by omega), r3 7 (by omega) (by omega)]; rfl
  · rw [pk_un (by omega), pk_un (by omega), pk_un (by omega), pk_un (by omega)]; exact r4
  · rw [pk_un (by omega), pk_un (by omega), pk_un (by omega), pk_un (by omega)]; exact r5
  · rw [pk_un (by omega), pk_un (by omega), pk_un (by omega), pk_un (by omega)]; exact r6 k hk
  · obtain ⟨a, b, c⟩ := r7 i x hx
    refine ⟨?_, ?_, ?_⟩
    · rw [pk_un (by omega), pk_un (by omega), pk_un (by omega), pk_un (by omega)]; exact a
    · rw [pk_un (by omega), pk_un (by omega), pk_un (by omega), pk_un (by omega)]; exact b
    · rw [pk_un (by omega), pk_un (by omega), pk_un (by omega), pk_un (by omega)]; exact c
theorem row_gos {s s' : Nat → Int32} {t : St} {i : Nat} (hr : Row s t) (hi : i < (sI t).length) (h9 : s' 9 = nI ((sI t).length - 1)) (hlo : ∀ j, j < 22 → j ≠ 9 → s' j = s j) (hlo2 : ∀ j, 22 ≤ j → j < 22 + 3 * i → s' j = s j) (hup : ∀ j, 22 + 3 * i ≤ j → j < 22 + 3 * ((sI t).length - 1) → s' j = s (j + 3)) : Row s' (gos t i) := by
  obtain ⟨r1, r2, r3, r4, r5, r6, r7⟩ := hr
  refine ⟨fun k hk => ?_, ?_, fun k h1 h2 => ?_, ?_, ?_, fun k hk => ?_, fun j x hx => ?_⟩
  · rw [hlo k (by omega) (by omega)]; exact r1 k hk
  · rw [hlo 3 (by omega) (by omega)]; exact r2
  · rw [hlo k (by omega) (by omega)]; exact r3 k h1 h2
  · rw [hlo 8 (by omega) (by omega)]; exact r4
  · rw [h9]; simp only [gos]; rw [List.length_eraseIdx_of_lt hi]
  · rw [hlo _ (by omega) (by omega)]; exact r6 k hk
  · have hx' : ((sI t).eraseIdx i)[j]? = some x := hx
    have hjl : j < (sI t).length - 1 := by have := (List.getElem?_eq_some_iff.mp hx').1; rwa [List.length_eraseIdx_of_lt hi] at this
    rw [List.getElem?_eraseIdx] at hx'
    by_cases q : j < i
    · rw [if_pos q] at hx'
      obtain ⟨a, b, c⟩ := r7 j x hx'
      rw [hlo2 _ (by omega) (by omega), hlo2 _ (by omega) (by omega), hlo2 _ (by omega) (by omega)]
      exact ⟨a, b, c⟩
    · rw [if_neg q] at hx'
      obtain ⟨a, b, c⟩ := r7 (j + 1) x hx'
      rw [hup _ (by omega) (by omega), hup _ (by omega) (by omega), hup _ (by omega) (by omega)]
      refine ⟨?_, ?_, ?_⟩
      · rw [← a]; exact congrArg s (by omega)
      · rw [← b]; exact congrArg s (by omega)
      · rw [← c]; exact congrArg s (by omega)
section M2
variable {G : GT} {h : PH} {m : Nat} {A : Nat → Nat} {f : Nat → Int32} {hs : Int64} {g : Nat → Nat → Int32} {t : St} {c : Nat}
theorem c_X3_comes (hM : MRep G h m A f hs g) (hr : Row (g 1) t) (n d : Nat) (w : Int32) (hn : (sI t).length < 40) : CT G yX3_comes cX3_comes 5 none (rmL 1 0 0) [.ref m, .int (nI n), .int w, .int (nI d)] h (fun v h' => v = none ∧ ∃ s, hS G h m A s = h' ∧ Row s (com t (n, w, d))) noX := by
  refine CT_of [some (.ref m), some (.int (nI n)), some (.int w), some (.int (nI d)), none] (by decide +kernel) rfl (Nat.le_of_ble_eq_true rfl) (fun X hC hF hE => ?_)
  have h9 := hr.2.2.2.2.1
  have e : nI 22 + nI 3 * g 1 9 = nI (22 + 3 * (sI t).length) := by rw [h9, pk_mul, nI_add]
  refine go_bipush hC (nI 22) dX3_comes_0 (by decide) ?_
  refine go_iconst hC (nI 3) dX3_comes_2 (by decide) ?_
  refine go_aload_n hC dX3_comes_3 rfl ?_
  refine go_get hC kX3 hM.1 1 q1753 dX3_comes_4 rfl (by decide) (Or.inl rfl) ?_
  refine go_bipush hC (nI 9) dX3_comes_7 (by decide) ?_
  refine go_iald hC 9 hM.2.1 dX3_comes_9 (by first | rfl | (simp only [nI_add, pk_mul, nI_1, Int32.add_zero]; done) | (simp only [nI_add, pk_mul, nI_1, Int32.add_zero]; exact congrArg nI (by omega))) (by omega) (by omega) ?_
  refine go_imul hC dX3_comes_10 ?_
  refine go_iadd hC dX3_comes_11 ?_
  rw [e]
  refine go_istore hC dX3_comes_12 (by decide) ?_
  have e9 : ∀ x y z, upd (upd (upd (g 1) (22 + 3 * (sI t).length) x) (22 + 3 * (sI t).length + 1) y) (22 + 3 * (sI t).length + 2) z 9 = nI (sI t).length := fun x y z => by
    rw [pk_un (by omega), pk_un (by omega), pk_un (by omega)]; exact h9
  have hM1 := fun s => hM.s s
  refine go_aload_n hC dX3_comes_14 rfl ?_
  refine go_get hC kX3 hM.1 1 q1753 dX3_comes_15 rfl (by decide) (Or.inl rfl) ?_
  refine go_iload hC dX3_comes_18 rfl ?_
  refine go_iconst hC (0) dX3_comes_20 (by decide) ?_
  refine go_iadd hC dX3_comes_21 ?_
  refine go_iload_n hC dX3_comes_22 rfl ?_
  refine go_iast hC (22+3*(sI t).length) hM.2.1 dX3_comes_23 (by first | rfl | (simp only [nI_add, pk_mul, nI_1, Int32.add_zero]; done) | (simp only [nI_add, pk_mul, nI_1, Int32.add_zero]; exact congrArg nI (by omega))) (by omega) (by omega) ?_
  refine go_aload_n hC dX3_comes_24 rfl ?_
  refine go_get hC kX3 (hM1 _).1 1 q1753 dX3_comes_25 rfl (by decide) (Or.inl rfl) ?_
  refine go_iload hC dX3_comes_28 rfl ?_
  refine go_iconst hC (1) dX3_comes_30 (by decide) ?_
  refine go_iadd hC dX3_comes_31 ?_
  refine go_iload_n hC dX3_comes_32 rfl ?_
  refine go_iast hC (22+3*(sI t).length+1) hu_eq dX3_comes_33 (by first | rfl | (simp only [nI_add, pk_mul, nI_1, Int32.add_zero]; done) | (simp only [nI_add, pk_mul, nI_1, Int32.add_zero]; exact congrArg nI (by omega))) (by omega) (by omega) ?_
  rw [hu_hu]
  refine go_aload_n hC dX3_comes_34 rfl ?_
  refine go_get hC kX3 (hM1 _).1 1 q1753 dX3_comes_35 rfl (by decide) (Or.inl rfl) ?_
  refine go_iload hC dX3_comes_38 rfl ?_
  refine go_iconst hC (nI 2) dX3_comes_40 (by decide) ?_
  refine go_iadd hC dX3_comes_41 ?_
  refine go_iload_n hC dX3_comes_42 rfl ?_
  refine go_iast hC (22+3*(sI t).length+2) hu_eq dX3_comes_43 (by first | rfl | (simp only [nI_add, pk_mul, nI_1, Int32.add_zero]; done) | (simp only [nI_add, pk_mul, nI_1, Int32.add_zero]; exact congrArg nI (by omega))) (by omega) (by omega) ?_
  rw [hu_hu]
  refine go_aload_n hC dX3_comes_44 rfl ?_
  refine go_get hC kX3 (hM1 _).1 1 q1753 dX3_comes_45 rfl (by decide) (Or.inl rfl) ?_
  refine go_bipush hC (nI 9) dX3_comes_48 (by decide) ?_
  refine go_dup2 hC dX3_comes_50 rfl rfl ?_
  refine go_iald hC 9 hu_eq dX3_comes_51 (by first | rfl | (simp only [nI_add, pk_mul, nI_1, Int32.add_zero]; done) | (simp only [nI_add, pk_mul, nI_1, Int32.add_zero]; exact congrArg nI (by omega))) (by omega) (by omega) ?_
  refine go_iconst hC (1) dX3_comes_52 (by decide) ?_
  refine go_iadd hC dX3_comes_53 ?_
  refine go_iast hC 9 hu_eq dX3_comes_54 (by first | rfl | (simp only [nI_add, pk_mul, nI_1, Int32.add_zero]; done) | (simp only [nI_add, pk_mul, nI_1, Int32.add_zero]; exact congrArg nI (by omega))) (by omega) (by omega) ?_
  rw [hu_hu]
  refine go_vret hC hF dX3_comes_55 rfl ?_
  exact ⟨rfl, _, rfl, row_com hr (by omega) (by rw [e9, nI_1])⟩
theorem c_X3_goes (hM : MRep G h m A f hs g) (hr : Row (g 1) t) (hw : WD t) (i : Nat) (hi : i < (sI t).length) : CT G yX3_goes cX3_goes 3 none (rmL 1 0 0) [.ref m, .int (nI i)] h (fun v h' => v = none ∧ ∃ s, hS G h m A s = h' ∧ Row s (gos t i)) noX := by
  refine CT_of [some (.ref m), some (.int (nI i)), none] (by decide +kernel) rfl (Nat.le_of_ble_eq_true rfl) (fun X hC hF hE => ?_)
  have hn := hw.1
  have h9 := hr.2.2.2.2.1
  have hM1 := fun s => hM.s s
  have loop2 : ∀ (k : Nat) (s : Nat → Int32), k ≤ 3 → s 9 = nI ((sI t).length - 1) → (∀ j, j < 22 → j ≠ 9 → s j = g 1 j) → (∀ j, 22 ≤ j → j < 22 + 3 * i → s j = g 1 j) → (∀ j, 22 + 3 * i ≤ j → j < 22 + 3 * ((sI t).length - 1) → s j = g 1 (j + 3)) → Go X G (hS G h m A s) 0 0 56 [some (.ref m), some (.int (nI i)), some (.int (nI k))] [] := by
    refine lpB (fun k _ => 3 - k) (fun k s ih hk s9 slo slo2 sup => ?_)
    refine go_iload_n hC dX3_goes_56 rfl ?_
    refine go_iconst hC (nI 3) dX3_goes_57 (by decide) ?_
    refine go_N_ge hC 87 dX3_goes_58 (by decide) rfl rfl (by omega) (by omega) (fun c58 => ?_) (fun c58 => ?_)
    · refine go_vret hC hF dX3_goes_87 rfl ?_
      exact ⟨rfl, s, rfl, row_gos hr hi s9 slo slo2 sup⟩
    · have e : nI 22 + nI 3 * s 9 + nI k = nI (22 + 3 * ((sI t).length - 1) + k) := by rw [s9, pk_mul, nI_add, nI_add]
      refine go_aload_n hC dX3_goes_61 rfl ?_
      refine go_get hC kX3 (hM1 _).1 1 q1753 dX3_goes_62 rfl (by decide) (Or.inl rfl) ?_
      refine go_bipush hC (nI 22) dX3_goes_65 (by decide) ?_
      refine go_iconst hC (nI 3) dX3_goes_67 (by decide) ?_
      refine go_aload_n hC dX3_goes_68 rfl ?_
      refine go_get hC kX3 (hM1 _).1 1 q1753 dX3_goes_69 rfl (by decide) (Or.inl rfl) ?_
      refine go_bipush hC (nI 9) dX3_goes_72 (by decide) ?_
      refine go_iald hC 9 hu_eq dX3_goes_74 (by first | rfl | (simp only [nI_add, pk_mul, nI_1, Int32.add_zero]; done) | (simp only [nI_add, pk_mul, nI_1, Int32.add_zero]; exact congrArg nI (by omega))) (by omega) (by omega) ?_
      refine go_imul hC dX3_goes_75 ?_
      refine go_iadd hC dX3_goes_76 ?_
      refine go_iload_n hC dX3_goes_77 rfl ?_
      refine go_iadd hC dX3_goes_78 ?_
      refine go_iconst hC (0) dX3_goes_79 (by decide) ?_
      refine go_iast hC (22+3*((sI t).length-1)+k) hu_eq dX3_goes_80 e (by omega) (by omega) ?_
      rw [hu_hu]
      refine go_iinc hC (v := nI (k + 1)) dX3_goes_81 rfl (nI_1 _) (by decide) ?_
      refine go_goto hC 56 dX3_goes_84 (by decide) ?_
      exact ih (k + 1) _ (by omega) (by omega) (by rw [pk_un (by omega)]; exact s9) (fun j h1 h2 => by rw [pk_un (by omega)]; exact slo j h1 h2) (fun j h1 h2 => by rw [pk_un (by omega)]; exact slo2 j h1 h2) (fun j h1 h2 => by rw [pk_un (by omega)]; exact sup j h1 h2)
  have loop1 : ∀ (k : Nat) (s : Nat → Int32), 22 + 3 * i ≤ k → k ≤ 22 + 3 * ((sI t).length - 1) → s 9 = nI ((sI t).length - 1) → (∀ j, j < 22 → j ≠ 9 → s j = g 1 j) → (∀ j, 22 ≤ j → j < 22 + 3 * i → s j = g 1 j) → (∀ j, 22 + 3 * i ≤ j → j < k → s j = g 1 (j + 3)) → (∀ j, k ≤ j → s j = g 1 j) → Go X G (hS G h m A s) 0 0 18 [some (.ref m), some (.int (nI i)), some (.int (nI k))] [] := by
    refine lpB (fun k _ => 22 + 3 * ((sI t).length - 1) - k) (fun k s ih hk1 hk s9 slo slo2 sup srest => ?_)
    have e : nI 22 + nI 3 * s 9 = nI (22 + 3 * ((sI t).length - 1)) := by rw [s9, pk_mul, nI_add]
    refine go_iload_n hC dX3_goes_18 rfl ?_
    refine go_bipush hC (nI 22) dX3_goes_19 (by decide) ?_
    refine go_iconst hC (nI 3) dX3_goes_21 (by decide) ?_
    refine go_aload_n hC dX3_goes_22 rfl ?_
    refine go_get hC kX3 (hM1 _).1 1 q1753 dX3_goes_23 rfl (by decide) (Or.inl rfl) ?_
    refine go_bipush hC (nI 9) dX3_goes_26 (by decide) ?_
    refine go_iald hC 9 hu_eq dX3_goes_28 (by first | rfl | (simp only [nI_add, pk_mul, nI_1, Int32.add_zero]; done) | (simp only [nI_add, pk_mul, nI_1, Int32.add_zero]; exact congrArg nI (by omega))) (by omega) (by omega) ?_
    refine go_imul hC dX3_goes_29 ?_
    refine go_iadd hC dX3_goes_30 ?_
    refine go_N_ge hC 54 dX3_goes_31 (by decide) rfl e (by omega) (by omega) (fun c31 => ?_) (fun c31 => ?_)
    · refine go_iconst hC (0) dX3_goes_54 (by decide) ?_
      refine go_istore_n hC dX3_goes_55 (by decide) ?_
      exact loop2 0 s (by omega) s9 slo slo2 (fun j h1 h2 => sup j h1 (by omega))
    · refine go_aload_n hC dX3_goes_34 rfl ?_
      refine go_get hC kX3 (hM1 _).1 1 q1753 dX3_goes_35 rfl (by decide) (Or.inl rfl) ?_
      refine go_iload_n hC dX3_goes_38 rfl ?_
      refine go_aload_n hC dX3_goes_39 rfl ?_
      refine go_get hC kX3 (hM1 _).1 1 q1753 dX3_goes_40 rfl (by decide) (Or.inl rfl) ?_
      refine go_iload_n hC dX3_goes_43 rfl ?_
      refine go_iconst hC (nI 3) dX3_goes_44 (by decide) ?_
      refine go_iadd hC dX3_goes_45 ?_
      refine go_iald hC (k+3) hu_eq dX3_goes_46 (by first | rfl | (simp only [nI_add, pk_mul, nI_1, Int32.add_zero]; done) | (simp only [nI_add, pk_mul, nI_1, Int32.add_zero]; exact congrArg nI (by omega))) (by omega) (by omega) ?_
      refine go_iast hC k hu_eq dX3_goes_47 (by first | rfl | (simp only [nI_add, pk_mul, nI_1, Int32.add_zero]; done) | (simp only [nI_add, pk_mul, nI_1, Int32.add_zero]; exact congrArg nI (by omega))) (by omega) (by omega) ?_
      rw [hu_hu]
      refine go_iinc hC (v := nI (k + 1)) dX3_goes_48 rfl (nI_1 _) (by decide) ?_
      refine go_goto hC 18 dX3_goes_51 (by decide) ?_
      refine ih (k + 1) _ (by omega) (by omega) (by omega) (by rw [pk_un (by omega)]; exact s9) (fun j h1 h2 => by rw [pk_un (by omega)]; exact slo j h1 h2) (fun j h1 h2 => by rw [pk_un (by omega)]; exact slo2 j h1 h2) (fun j h1 h2 => ?_) (fun j h1 => by rw [pk_un (by omega)]; exact srest j (by omega))
      by_cases q : j = k
      · rw [q, pk_us]; exact srest (k + 3) (by omega)
      · rw [pk_un q]; exact sup j h1 (by omega)
  have e0 : nI 22 + nI 3 * nI i = nI (22 + 3 * i) := by rw [pk_mul, nI_add]
  have e9 : g 1 9 - 1 = nI ((sI t).length - 1) := by
    rw [h9, show (sI t).length = ((sI t).length - 1) + 1 by omega, nI_pred]; rfl
  refine go_aload_n hC dX3_goes_0 rfl ?_
  refine go_get hC kX3 hM.1 1 q1753 dX3_goes_1 rfl (by decide) (Or.inl rfl) ?_
  refine go_bipush hC (nI 9) dX3_goes_4 (by decide) ?_
  refine go_dup2 hC dX3_goes_6 rfl rfl ?_
  refine go_iald hC 9 hM.2.1 dX3_goes_7 (by first | rfl | (simp only [nI_add, pk_mul, nI_1, Int32.add_zero]; done) | (simp only [nI_add, pk_mul, nI_1, Int32.add_zero]; exact congrArg nI (by omega))) (by omega) (by omega) ?_
  refine go_iconst hC (1) dX3_goes_8 (by decide) ?_
  refine go_isub hC dX3_goes_9 ?_
  rw [e9]
  refine go_iast hC 9 hM.2.1 dX3_goes_10 (by first | rfl | (simp only [nI_add, pk_mul, nI_1, Int32.add_zero]; done) | (simp only [nI_add, pk_mul, nI_1, Int32.add_zero]; exact congrArg nI (by omega))) (by omega) (by omega) ?_
  refine go_bipush hC (nI 22) dX3_goes_11 (by decide) ?_
  refine go_iconst hC (nI 3) dX3_goes_13 (by decide) ?_
  refine go_iload_n hC dX3_goes_14 rfl ?_
  refine go_imul hC dX3_goes_15 ?_
  refine go_iadd hC dX3_goes_16 ?_
  rw [e0]
  refine go_istore_n hC dX3_goes_17 (by decide) ?_
  exact loop1 (22 + 3 * i) _ (Nat.le_refl _) (by omega) pk_us (fun j h1 h2 => pk_un h2) (fun j h1 h2 => pk_un (by omega)) (fun j h1 h2 => absurd h2 (by omega)) (fun j h1 => pk_un (by omega))
theorem c_X3_turns (hM : MRep G h m A f hs g) (hr : Row (g 1) t) (hw : WF c t) (d : Nat) (hd : d < 12) : CT G yX3_turns cX3_turns 3 none (rmL 5 0 0) [.ref m, .int (nI d)] h (fun v h' => v = none ∧ ∃ s, hS G h m A s = h' ∧ Row s (trn t d)) noX := by
  refine CT_of [some (.ref m), some (.int (nI d)), none] (by decide +kernel) rfl (Nat.le_of_ble_eq_true rfl) (fun X hC hF hE => ?_)
  have hM1 := fun s => hM.s s
  have r4 := hr.2.2.1 4 (by omega) (by omega)
  have r5 := hr.2.2.1 5 (by omega) (by omega)
  have r6 := hr.2.2.1 6 (by omega) (by omega)
  have last : ∀ (z : Int32), z = (if 6 < way t d then 1 else if -5 ≤ way t d then 0 else 1) → Go X G (hS G h m A (upd (upd (g 1) 4 (sN (trn t d) 4)) 5 (sN (trn t d) 5))) 0 0 63 [some (.ref m), some (.int (nI d)), some (.int (way t d))] [.int z, .int (g 1 6), .int (nI 6), .ref (A 1)] := by
    intro z hz
    refine go_iadd hC dX3_turns_63 ?_
    refine go_iast hC 6 hu_eq dX3_turns_64 (by first | rfl | (simp only [nI_add, pk_mul, nI_1, Int32.add_zero]; done) | (simp only [nI_add, pk_mul, nI_1, Int32.add_zero]; exact congrArg nI (by omega))) (by omega) (by omega) ?_
    rw [hu_hu]
    refine go_aload_n hC dX3_turns_65 rfl ?_
    refine go_get hC kX3 (hM1 _).1 1 q1753 dX3_turns_66 rfl (by decide) (Or.inl rfl) ?_
    refine go_iconst hC (nI 3) dX3_turns_69 (by decide) ?_
    refine go_iload_n hC dX3_turns_70 rfl ?_
    refine go_iast hC 3 hu_eq dX3_turns_71 (by first | rfl | (simp only [nI_add, pk_mul, nI_1, Int32.add_zero]; done) | (simp only [nI_add, pk_mul, nI_1, Int32.add_zero]; exact congrArg nI (by omega))) (by omega) (by omega) ?_
    rw [hu_hu]
    refine go_vret hC hF dX3_turns_72 rfl ?_
    exact ⟨rfl, _, rfl, row_trn hr (by rw [hz, r6]; rfl)⟩
  have mid : ∀ (z : Int32), z = (if 0 ≤ way t d then 0 else -(way t d)) → Go X G (hS G h m A (upd (g 1) 4 (sN (trn t d) 4))) 0 0 36 [some (.ref m), some (.int (nI d)), some (.int (way t d))] [.int z, .int (g 1 5), .int (nI 5), .ref (A 1)] := by
    intro z hz
    have e : g 1 5 + z = sN (trn t d) 5 := by rw [hz, r5]; rfl
    refine go_iadd hC dX3_turns_36 ?_
    rw [e]
    refine go_iast hC 5 hu_eq dX3_turns_37 (by first | rfl | (simp only [nI_add, pk_mul, nI_1, Int32.add_zero]; done) | (simp only [nI_add, pk_mul, nI_1, Int32.add_zero]; exact congrArg nI (by omega))) (by omega) (by omega) ?_
    rw [hu_hu]
    refine go_aload_n hC dX3_turns_38 rfl ?_
    refine go_get hC kX3 (hM1 _).1 1 q1753 dX3_turns_39 rfl (by decide) (Or.inl rfl) ?_
    refine go_bipush hC (nI 6) dX3_turns_42 (by decide) ?_
    refine go_dup2 hC dX3_turns_44 rfl rfl ?_
    refine go_iald hC 6 hu_eq dX3_turns_45 (by first | rfl | (simp only [nI_add, pk_mul, nI_1, Int32.add_zero]; done) | (simp only [nI_add, pk_mul, nI_1, Int32.add_zero]; exact congrArg nI (by omega))) (by omega) (by omega) ?_
    rw [pk_un (show 6 ≠ 5 by omega), pk_un (show 6 ≠ 4 by omega)]
    refine go_iload_n hC dX3_turns_46 rfl ?_
    refine go_bipush hC (nI 6) dX3_turns_47 (by decide) ?_
    refine go_icmp_gt hC 58 dX3_turns_49 (by decide) (fun c49 => ?_) (fun c49 => ?_)
    · refine go_iconst hC (1) dX3_turns_58 (by decide) ?_
      refine go_goto hC 63 dX3_turns_59 (by decide) ?_
      exact last _ (by rw [if_pos (show 6 < way t d from c49)])
    · refine go_iload_n hC dX3_turns_52 rfl ?_
      refine go_bipush hC (-5) dX3_turns_53 (by decide) ?_
      refine go_icmp_ge hC 62 dX3_turns_55 (by decide) (fun c55 => ?_) (fun c55 => ?_)
      · refine go_iconst hC (0) dX3_turns_62 (by decide) ?_
        exact last _ (by rw [if_neg (show ¬ 6 < way t d from c49), if_pos c55])
      · refine go_iconst hC (1) dX3_turns_58 (by decide) ?_
        refine go_goto hC 63 dX3_turns_59 (by decide) ?_
        exact last _ (by rw [if_neg (show ¬ 6 < way t d from c49), if_neg c55])
  have e4 : g 1 4 + absI (way t d) = sN (trn t d) 4 := by rw [r4]; rfl
  refine go_aload_n hC dX3_turns_0 rfl ?_
  refine go_iload_n hC dX3_turns_1 rfl ?_
  refine go_callV0 hC (c_X3_wayTo hM hr hw d hd) (lw_V q1862 q1864 qs42 q83 q1865) hM.1 rfl dX3_turns_2 1 rfl (by decide +kernel) rfl ⟨Nat.le_of_ble_eq_true rfl, Nat.le_of_ble_eq_true rfl⟩ (Nat.le_of_ble_eq_true rfl) ⟨rfl, rfl⟩ ?_
  rintro _ _ ⟨rfl, rfl⟩
  refine go_istore_n hC dX3_turns_5 (by decide) ?_
  refine go_aload_n hC dX3_turns_6 rfl ?_
  refine go_get hC kX3 hM.1 1 q1753 dX3_turns_7 rfl (by decide) (Or.inl rfl) ?_
  refine go_iconst hC (nI 4) dX3_turns_10 (by decide) ?_
  refine go_dup2 hC dX3_turns_11 rfl rfl ?_
  refine go_iald hC 4 hM.2.1 dX3_turns_12 (by first | rfl | (simp only [nI_add, pk_mul, nI_1, Int32.add_zero]; done) | (simp only [nI_add, pk_mul, nI_1, Int32.add_zero]; exact congrArg nI (by omega))) (by omega) (by omega) ?_
  refine go_iload_n hC dX3_turns_13 rfl ?_
  refine go_callS0 hC (c_X3_size (way t d)) (lw_S q1878 q1879 q83 q1880) dX3_turns_14 1 rfl (by decide +kernel) rfl ⟨Nat.le_of_ble_eq_true rfl, Nat.le_of_ble_eq_true rfl⟩ (Nat.le_of_ble_eq_true rfl) ⟨rfl, rfl⟩ ?_
  rintro _ _ ⟨rfl, rfl⟩
  refine go_iadd hC dX3_turns_17 ?_
  rw [e4]
  refine go_iast hC 4 hM.2.1 dX3_turns_18 (by first | rfl | (simp only [nI_add, pk_mul, nI_1, Int32.add_zero]; done) | (simp only [nI_add, pk_mul, nI_1, Int32.add_zero]; exact congrArg nI (by omega))) (by omega) (by omega) ?_
  refine go_aload_n hC dX3_turns_19 rfl ?_
  refine go_get hC kX3 (hM1 _).1 1 q1753 dX3_turns_20 rfl (by decide) (Or.inl rfl) ?_
  refine go_iconst hC (nI 5) dX3_turns_23 (by decide) ?_
  refine go_dup2 hC dX3_turns_24 rfl rfl ?_
  refine go_iald hC 5 hu_eq dX3_turns_25 (by first | rfl | (simp only [nI_add, pk_mul, nI_1, Int32.add_zero]; done) | (simp only [nI_add, pk_mul, nI_1, Int32.add_zero]; exact congrArg nI (by omega))) (by omega) (by omega) ?_
  rw [pk_un (show 5 ≠ 4 by omega)]
  refine go_iload_n hC dX3_turns_26 rfl ?_
  refine go_if_ge hC 35 dX3_turns_27 (by decide) (fun c27 => ?_) (fun c27 => ?_)
  · refine go_iconst hC (0) dX3_turns_35 (by decide) ?_
    exact mid _ (by rw [if_pos c27])
  · refine go_iload_n hC dX3_turns_30 rfl ?_
    refine go_ineg hC dX3_turns_31 ?_
    refine go_goto hC 36 dX3_turns_32 (by decide) ?_
    exact mid _ (by rw [if_neg c27])
end M2
