/-! java.util.HashMap: get, clear, new, the table's growth -/
set_option maxRecDepth 100000
theorem seg_new {h : PH} {r d q : Nat} {o : Ow} {c : va_E} (hq : h q = none) : ∀ {l : List Nd} {p e : Option Nat}, seg h r d l p e → seg (hu h q o c) r d l p e
  | [], p, e, hc => hc
  | x :: l, p, e, ⟨e1, hn, ht, nx, ha, hc⟩ => ⟨e1, hn, hu_n hq ht, nx, hu_n hq ha, seg_new hq hc⟩
/-- a cell with another label is changed -/
theorem seg_up {h : PH} {r d a : Nat} {o : Ow} {c c' : va_E} (ha : h a = some (o, c)) (n1 : o ≠ (d, 9)) : ∀ {l : List Nd} {p e : Option Nat}, (∀ x ∈ l, o ≠ nL9 r (nN x)) → seg h r d l p e → seg (hu h a o c') r d l p e
  | [], p, e, _, hc => hc
  | x :: l, p, e, n2, ⟨e1, hn, ht, nx, hx, hc⟩ => ⟨e1, hn, hu_k ht ha (Ne.symm n1), nx, hu_k hx ha (Ne.symm (n2 x List.mem_cons_self)), seg_up ha n1 (fun y hy => n2 y (List.mem_cons_of_mem _ hy)) hc⟩
theorem ow_nd {r d i j : Nat} (h : i ≠ j) : ((r, i) : Ow) ≠ (d, j) := fun z => h (congrArg Prod.snd z)
theorem nL_ne {r a b : Nat} (h : a ≠ b) : nL9 r a ≠ nL9 r b := fun z => h (by have : 17 + 2 * a = 17 + 2 * b := congrArg Prod.snd z; omega)
theorem nL_t {r d a : Nat} : nL9 r a ≠ (d, 9) := fun z => by have : 17 + 2 * a = 9 := congrArg Prod.snd z; omega
/-- the last node's next is set -/
theorem seg_set {h : PH} {r d : Nat} {e' : Option Nat} : ∀ {l : List Nd} {z : Nd} {p e : Option Nat}, seg h r d l p e → ((l.map nN).Nodup) → l.getLast? = some z → (∃ nx, h (nA z) = some (nL9 r (nN z), ndc z nx)) ∧ seg (hu h (nA z) (nL9 r (nN z)) (ndc z e')) r d l p e'
  | [], z, p, e, _, _, hl => by cases hl
  | [x], z, p, e, ⟨e1, hn, ht, nx, ha, hc⟩, _, hl => by
    cases hl
    exact ⟨⟨nx, ha⟩, e1, hn, hu_k ht ha (Ne.symm nL_t), e', hu_eq, rfl⟩
  | x :: y :: l, z, p, e, ⟨e1, hn, ht, nx, ha, hc⟩, hnd, hl => by
    have hl2 : (y :: l).getLast? = some z := by rw [← hl]; exact (List.getLast?_cons_cons).symm
    have hnd2 : (nN x ∉ (y :: l).map nN) ∧ ((y :: l).map nN).Nodup := by rw [List.map_cons, List.nodup_cons] at hnd; exact hnd
    obtain ⟨⟨nz, hz⟩, hs⟩ := seg_set (e' := e') hc hnd2.2 hl2
    have hzm : z ∈ y :: l := List.mem_of_getLast? hl2
    have hne : nN x ≠ nN z := fun q => hnd2.1 (by rw [q]; exact List.mem_map.mpr ⟨z, hzm, rfl⟩)
    exact ⟨⟨nz, hz⟩, e1, hn, hu_k ht hz (Ne.symm nL_t), nx, hu_k ha hz (nL_ne hne), hs⟩
theorem seg_app {h : PH} {r d : Nat} {x : Nd} {e : Option Nat} (hn : nN x < 64) (ht : h (nT x) = some ((d, 9), tgc (nN x))) (hx : h (nA x) = some (nL9 r (nN x), ndc x e)) : ∀ {l : List Nd} {p : Option Nat}, seg h r d l p (some (nA x)) → seg h r d (l ++ [x]) p e
  | [], p, hc => ⟨hc, hn, ht, e, hx, rfl⟩
  | y :: l, p, ⟨e1, hn1, ht1, nx, ha, hc⟩ => ⟨e1, hn1, ht1, nx, ha, seg_app hn ht hx hc⟩
theorem seg_mem {h : PH} {r d : Nat} : ∀ {l : List Nd} {p e : Option Nat}, seg h r d l p e → ∀ x ∈ l, nN x < 64 ∧ h (nT x) = some ((d, 9), tgc (nN x)) ∧ ∃ nx, h (nA x) = some (nL9 r (nN x), ndc x nx)
  | [], p, e, _, x, hx => by cases hx
  | y :: l, p, e, ⟨e1, hn1, ht1, nx, ha, hc⟩, x, hx => by
    rcases List.mem_cons.mp hx with q | q
    · rw [q]; exact ⟨hn1, ht1, nx, ha⟩
    · exact seg_mem hc x q
section HM
variable {G : GT} {h : PH} {r d mp t a n sz : Nat} {o : Ow} {M : Nat → Option Nat}
theorem c_J3_init {a : Nat} : CT G yJ3_init cJ3_init 1 none (rmL 1 0 0) [.ref a] h (fun v h' => v = none ∧ h = h') noX := by
  refine CT_of [some (.ref a)] (by decide +kernel) rfl (Nat.le_of_ble_eq_true rfl) (fun X hC hF hE => ?_)
  refine go_aload_n hC dJ3_init_0 rfl ?_
  refine go_objI hC q160 q118 q119 (Nat.le_of_ble_eq_true rfl) ⟨Nat.le_of_ble_eq_true rfl, Nat.le_of_ble_eq_true rfl⟩ dJ3_init_1 ?_
  refine go_vret hC hF dJ3_init_4 rfl ?_
  exact ⟨rfl, rfl⟩
theorem c_J4_init (hm : h mp = some ((r, 2), ob 8 nfJ4)) (hM : ∀ n, n < 64 → M n = none) : CT G yJ4_init cJ4_init 1 none (rmL 2 0 0) [.ref mp] h (fun v h' => v = none ∧ HM G h' r d mp 0 M ∧ fr (Pm r) h h') noX := by
  refine CT_ofI [some (.ref mp)] (by decide +kernel) rfl (Nat.le_of_ble_eq_true rfl) (fun X hC hF hE hI => ?_)
  refine go_aload_n hC dJ4_init_0 rfl ?_
  refine go_callI0 hC c_J3_init q159 q77 q157 q158 rfl dJ4_init_1 0 rfl (by decide +kernel) rfl ⟨Nat.le_of_ble_eq_true rfl, Nat.le_of_ble_eq_true rfl⟩ (Nat.le_of_ble_eq_true rfl) ⟨rfl, rfl⟩ ?_
  rintro _ _ ⟨rfl, rfl⟩
  refine go_aload_n hC dJ4_init_4 rfl ?_
  refine go_ldcf hC dJ4_init_5 q161 ?_
  refine go_putF hC hI kJ4 hm 7 q166 dJ4_init_7 (by decide) (Nat.le_of_ble_eq_true rfl) (Or.inl rfl) rfl rfl rfl rfl ?_
  refine go_vret hC hF dJ4_init_10 rfl ?_
  exact ⟨rfl, ⟨0, 1061158912, Or.inl ⟨hu_eq, rfl, hM⟩⟩, fr.rf.up hm ⟨rfl, Or.inl rfl⟩⟩
theorem c_J4_getNode0 {mc : Int32} {lf : UInt32} (hM : HM0 h r mp mc lf sz M) (ht : Value) : CT G yJ4_getNode cJ4_getNode 8 (some (.object "java/util/HashMap$Node")) (rmL 3 0 0) [.ref mp, .ref t] h (fun v h' => v = some .null ∧ h = h') noX := by
  refine CT_of [some (.ref mp), some (.ref t), none, none, none, none, none, none] (by decide +kernel) rfl (Nat.le_of_ble_eq_true rfl) (fun X hC hF hE => ?_)
  refine go_aload_n hC dJ4_getNode_0 rfl ?_
  refine go_get hC kJ4 hM.1 2 q162 dJ4_getNode_1 rfl (by decide) (Or.inl rfl) ?_
  refine go_dup hC dJ4_getNode_4 rfl ?_
  refine go_astore_nN hC dJ4_getNode_5 (by decide) ?_
  refine go_ifnullN hC 148 dJ4_getNode_6 (by decide) ?_
  refine go_null hC dJ4_getNode_148 ?_
  refine go_aret hC hF dJ4_getNode_149 rfl (Or.inl ⟨_, rfl⟩) (Or.inl rfl) ?_
  exact ⟨rfl, rfl⟩
theorem c_J4_get (hM : HM G h r d mp sz M) (ht : h t = some ((d, 9), tgc n)) (hn : n < 64) : CT G yJ4_get cJ4_get 3 (some (.object "java/lang/Object")) (rmL 4 0 0) [.ref mp, .ref t] h (fun v h' => v = some (vO (M n)) ∧ h = h') noX := by
  obtain ⟨mc, lf, hM⟩ := hM
  refine CT_of [some (.ref mp), some (.ref t), none] (by decide +kernel) rfl (Nat.le_of_ble_eq_true rfl) (fun X hC hF hE => ?_)
  rcases hM with hM | ⟨k, T, f, bk, hM⟩
  · refine go_aload_n hC dJ4_get_0 rfl ?_
    refine go_aload_n hC dJ4_get_1 rfl ?_
    refine go_callV0 hC (c_J4_getNode0 hM .null) (lw_V q746 q747 q748 q78 q749) hM.1 rfl dJ4_get_2 1 rfl (by decide +kernel) rfl ⟨Nat.le_of_ble_eq_true rfl, Nat.le_of_ble_eq_true rfl⟩ (Nat.le_of_ble_eq_true rfl) ⟨rfl, rfl⟩ ?_
    rintro _ _ ⟨rfl, rfl⟩
    refine go_dup hC dJ4_get_5 rfl ?_
    refine go_astore_nN hC dJ4_get_6 (by decide) ?_
    refine go_ifnonnullN hC dJ4_get_7 ?_
    refine go_null hC dJ4_get_10 ?_
    refine go_goto hC 18 dJ4_get_11 (by decide) ?_
    refine go_aret hC hF dJ4_get_18 rfl (Or.inl ⟨_, rfl⟩) (Or.inl rfl) ?_
    rw [hM.2.2 n hn]
    exact ⟨rfl, rfl⟩
  · have hMn := hM.2.2.2.2.2 n hn
    have hi := Nat.mod_lt (hsh n) (Nat.two_pow_pos k)
    have hs := (hM.2.2.2.2.1 _ hi).1
    refine go_aload_n hC dJ4_get_0 rfl ?_
    refine go_aload_n hC dJ4_get_1 rfl ?_
    refine go_callV0 hC (c_J4_getNode hM ht hn) (lw_V q746 q747 q748 q78 q749) hM.2.1 rfl dJ4_get_2 1 rfl (by decide +kernel) rfl ⟨Nat.le_of_ble_eq_true rfl, Nat.le_of_ble_eq_true rfl⟩ (Nat.le_of_ble_eq_true rfl) ⟨rfl, rfl⟩ ?_
    rintro _ _ ⟨rfl, rfl⟩
    cases hf : (bk (hsh n % 2 ^ k)).find? (fun x => nN x == n) with
    | none =>
      rw [hf] at hMn
      refine go_dup hC dJ4_get_5 rfl ?_
      refine go_astore_nN hC dJ4_get_6 (by decide) ?_
      refine go_ifnonnullN hC dJ4_get_7 ?_
      refine go_null hC dJ4_get_10 ?_
      refine go_goto hC 18 dJ4_get_11 (by decide) ?_
      refine go_aret hC hF dJ4_get_18 rfl (Or.inl ⟨_, rfl⟩) (Or.inl rfl) ?_
      rw [hMn]
      exact ⟨rfl, rfl⟩
    | some x =>
      rw [hf] at hMn
      obtain ⟨-, -, nx, hx⟩ := seg_mem hs x (List.mem_of_find?_eq_some hf)
      refine go_dup hC dJ4_get_5 rfl ?_
      refine go_astore_n hC dJ4_get_6 (by decide) ?_
      refine go_ifnonnull hC 14 dJ4_get_7 (by decide) ?_
      refine go_aload_n hC dJ4_get_14 rfl ?_
      refine go_get hC kJ23 hx 2 q1320 dJ4_get_15 rfl (by decide) (Or.inl rfl) ?_
      refine go_aret hC hF dJ4_get_18 rfl (Or.inl ⟨_, rfl⟩) (Or.inr ⟨_, rfl⟩) ?_
      rw [hMn]
      exact ⟨rfl, rfl⟩
theorem c_J4_clear {M' : Nat → Option Nat} (hM : HM G h r d mp sz M) (hz : sz = 0 → ∀ n, n < 64 → M n = none) (hM' : ∀ n, n < 64 → M' n = none) : CT G yJ4_clear cJ4_clear 3 none (rmL 1 0 0) [.ref mp] h (fun v h' => v = none ∧ HM G h' r d mp 0 M' ∧ fr (Pm r) h h') noX := by
  obtain ⟨mc, lf, hM⟩ := hM
  refine CT_of [some (.ref mp), none, none] (by decide +kernel) rfl (Nat.le_of_ble_eq_true rfl) (fun X hC hF hE => ?_)
  rcases hM with ⟨g1, g2, g3⟩ | ⟨k, T, f, bk, hk, g1, g2, g3, g4, g5⟩
  · refine go_aload_n hC dJ4_clear_0 rfl ?_
    refine go_dup hC dJ4_clear_1 rfl ?_
    refine go_get hC kJ4 g1 5 q164 dJ4_clear_2 rfl (by decide) (Or.inl rfl) ?_
    refine go_iconst hC (1) dJ4_clear_5 (by decide) ?_
    refine go_iadd hC dJ4_clear_6 ?_
    refine go_put hC kJ4 g1 5 q164 dJ4_clear_7 (by decide) (Nat.le_of_ble_eq_true rfl) (Or.inl rfl) rfl rfl rfl ?_
    refine go_aload_n hC dJ4_clear_10 rfl ?_
    refine go_get hC kJ4 hu_eq 2 q162 dJ4_clear_11 rfl (by decide) (Or.inl rfl) ?_
    refine go_dup hC dJ4_clear_14 rfl ?_
    refine go_astore_nN hC dJ4_clear_15 (by decide) ?_
    refine go_ifnullN hC 49 dJ4_clear_16 (by decide) ?_
    refine go_vret hC hF dJ4_clear_49 rfl ?_
    exact ⟨rfl, ⟨mc + 1, lf, Or.inl ⟨hu_eq, rfl, hM'⟩⟩, fr.rf.up g1 ⟨rfl, Or.inl rfl⟩⟩
  · have hp : 2 ^ k ≤ 2 ^ 6 := Nat.pow_le_pow_right (by omega) hk.2
    have h12 : 12 * 2 ^ (k - 4) ≤ 48 := by have : 2 ^ (k - 4) ≤ 2 ^ 2 := Nat.pow_le_pow_right (by omega) (by omega); omega
    have ne28 : ((r, 8) : Ow) ≠ (r, 2) := ow_ne (by decide)
    rcases Nat.eq_zero_or_pos sz with q0 | q0
    · refine go_aload_n hC dJ4_clear_0 rfl ?_
      refine go_dup hC dJ4_clear_1 rfl ?_
      refine go_get hC kJ4 g1 5 q164 dJ4_clear_2 rfl (by decide) (Or.inl rfl) ?_
      refine go_iconst hC (1) dJ4_clear_5 (by decide) ?_
      refine go_iadd hC dJ4_clear_6 ?_
      refine go_put hC kJ4 g1 5 q164 dJ4_clear_7 (by decide) (Nat.le_of_ble_eq_true rfl) (Or.inl rfl) rfl rfl rfl ?_
      refine go_aload_n hC dJ4_clear_10 rfl ?_
      refine go_get hC kJ4 hu_eq 2 q162 dJ4_clear_11 rfl (by decide) (Or.inl rfl) ?_
      refine go_dup hC dJ4_clear_14 rfl ?_
      refine go_astore_n hC dJ4_clear_15 (by decide) ?_
      refine go_ifnull hC dJ4_clear_16 ?_
      refine go_aload_n hC dJ4_clear_19 rfl ?_
      refine go_get hC kJ4 hu_eq 4 q163 dJ4_clear_20 rfl (by decide) (Or.inl rfl) ?_
      refine go_if_le hC 49 dJ4_clear_23 (by decide) (fun _ => ?_) (fun z => absurd (show nI sz ≤ 0 by rw [q0]; decide) z)
      refine go_vret hC hF dJ4_clear_49 rfl ?_
      refine ⟨rfl, ⟨mc + 1, lf, Or.inr ⟨k, T, f, bk, hk, hu_eq.trans (by rw [q0]; rfl), hu_k g2 g1 ne28, Nat.zero_le _, fun i hi => ⟨seg_up g1 (ow_nd (by decide)) (fun x _ => ow_nd (by omega)) (g4 i hi).1, (g4 i hi).2⟩, fun n hn => ?_⟩⟩, fr.rf.up g1 ⟨rfl, Or.inl rfl⟩⟩
      rw [hM' n hn, ← hz q0 n hn]; exact g5 n hn
    · refine go_aload_n hC dJ4_clear_0 rfl ?_
      refine go_dup hC dJ4_clear_1 rfl ?_
      refine go_get hC kJ4 g1 5 q164 dJ4_clear_2 rfl (by decide) (Or.inl rfl) ?_
      refine go_iconst hC (1) dJ4_clear_5 (by decide) ?_
      refine go_iadd hC dJ4_clear_6 ?_
      refine go_put hC kJ4 g1 5 q164 dJ4_clear_7 (by decide) (Nat.le_of_ble_eq_true rfl) (Or.inl rfl) rfl rfl rfl ?_
      refine go_aload_n hC dJ4_clear_10 rfl ?_
      refine go_get hC kJ4 hu_eq 2 q162 dJ4_clear_11 rfl (by decide) (Or.inl rfl) ?_
      refine go_dup hC dJ4_clear_14 rfl ?_
      refine go_astore_n hC dJ4_clear_15 (by decide) ?_
      refine go_ifnull hC dJ4_clear_16 ?_
      refine go_aload_n hC dJ4_clear_19 rfl ?_
      refine go_get hC kJ4 hu_eq 4 q163 dJ4_clear_20 rfl (by decide) (Or.inl rfl) ?_
      refine go_if_le hC 49 dJ4_clear_23 (by decide) (fun z => absurd z (nI_nle q0 (by omega))) (fun _ => ?_)
      refine go_aload_n hC dJ4_clear_26 rfl ?_
      refine go_iconst hC (0) dJ4_clear_27 (by decide) ?_
      refine go_put hC kJ4 hu_eq 4 q163 dJ4_clear_28 (by decide) (Nat.le_of_ble_eq_true rfl) (Or.inl rfl) rfl rfl rfl ?_
      rw [hu_hu]
      refine go_iconst hC (0) dJ4_clear_31 (by decide) ?_
      refine go_istore_n hC dJ4_clear_32 (by decide) ?_
      generalize hh : hu h mp (r, 2) _ = h1
      have g1' : h1 mp = some ((r, 2), ob 8 [.null, .null, .ref T, .null, .int 0, .int (mc + 1), .int (nI (12 * 2 ^ (k - 4))), .float lf]) := by rw [← hh, hu_eq]; rfl
      have g2' : h1 T = some ((r, 8), oa G 5 (2 ^ k) f) := by rw [← hh]; exact hu_k g2 g1 ne28
      have hf1 : fr (Pm r) h h1 := by rw [← hh]; exact fr.rf.up g1 ⟨rfl, Or.inl rfl⟩
      have loop : ∀ (i : Nat) (f : Nat → Option Nat), i ≤ 2 ^ k → (∀ j, j < i → f j = none) → Go X G (hu h1 T (r, 8) (oa G 5 (2 ^ k) f)) 0 0 33 [some (.ref mp), some (.ref T), some (.int (nI i))] [] := by
        refine lpB (fun i _ => 2 ^ k - i) (fun i f ih hi hz => ?_)
        refine go_iload_n hC dJ4_clear_33 rfl ?_
        refine go_aload_n hC dJ4_clear_34 rfl ?_
        refine go_alen hC hu_eq rfl dJ4_clear_35 ?_
        refine go_N_ge hC 49 dJ4_clear_36 (by decide) rfl rfl (by omega) (by omega) (fun c36 => ?_) (fun c36 => ?_)
        · refine go_vret hC hF dJ4_clear_49 rfl ?_
          refine ⟨rfl, ⟨mc + 1, lf, Or.inr ⟨k, T, f, fun _ => [], hk, hu_k g1' g2' ne28.symm, hu_eq, Nat.zero_le _, fun j hj => ⟨hz j (by omega), (fun x hx => absurd hx List.not_mem_nil), List.nodup_nil⟩, fun n hn => ?_⟩⟩, hf1.up g2' ⟨rfl, Or.inr (Or.inl rfl)⟩⟩
          rw [hM' n hn]; rfl
        · refine go_aload_n hC dJ4_clear_39 rfl ?_
          refine go_iload_n hC dJ4_clear_40 rfl ?_
          refine go_null hC dJ4_clear_41 ?_
          refine go_aastN hC i hu_eq rfl dJ4_clear_42 (by first | rfl | (simp only [nI_add, pk_mul, nI_1, Int32.add_zero]; done) | (simp only [nI_add, pk_mul, nI_1, Int32.add_zero]; exact congrArg nI (by omega))) (by omega) (by omega) ?_
          rw [hu_hu]
          refine go_iinc hC (v := nI (i + 1)) dJ4_clear_43 rfl (nI_1 _) (by decide) ?_
          refine go_goto hC 33 dJ4_clear_46 (by decide) ?_
          refine ih (i + 1) _ (by omega) (by omega) (fun j hj => ?_)
          by_cases q : j = i
          · exact if_pos q
          · rw [show va_up f i none j = f j from if_neg q]; exact hz j (by omega)
      have e0 : hu h1 T (r, 8) (oa G 5 (2 ^ k) f) = h1 := hu_id g2'
      rw [← e0]
      exact loop 0 f (Nat.zero_le _) (fun j hj => absurd hj (Nat.not_lt_zero _))
end HM
