/-! java.util.ArrayList -/
set_option maxRecDepth 100000
/-- cells of other owners stay -/
def fr (P : Ow → Prop) (h h' : PH) : Prop := ∀ (q : Nat) (o : Ow) (e : va_E), h q = some (o, e) → ¬ P o → h' q = some (o, e)
theorem fr.rf {P : Ow → Prop} {h : PH} : fr P h h := fun _ _ _ z _ => z
theorem fr.tr {P : Ow → Prop} {h h1 h2 : PH} (a : fr P h h1) (b : fr P h1 h2) : fr P h h2 := fun q o e z w => b q o e (a q o e z w) w
theorem fr.up {P : Ow → Prop} {h h1 : PH} {a : Nat} {o o2 : Ow} {e e' : va_E} (z : fr P h h1) (ha : h1 a = some (o, e)) (hP : P o) : fr P h (hu h1 a o2 e') := by
  intro q o3 e3 hq hn
  have h1q := z q o3 e3 hq hn
  rw [hu_ne (show q ≠ a from fun w => by rw [w, ha] at h1q; cases h1q; exact hn hP)]
  exact h1q
theorem fr.nw {P : Ow → Prop} {h h1 : PH} {a : Nat} {o2 : Ow} {e' : va_E} (z : fr P h h1) (ha : h1 a = none) : fr P h (hu h1 a o2 e') := by
  intro q o3 e3 hq hn
  have h1q := z q o3 e3 hq hn
  rw [hu_ne (show q ≠ a from fun w => by rw [w, ha] at h1q; cases h1q)]
  exact h1q
theorem fr.mono {P Q : Ow → Prop} {h h1 : PH} (z : fr P h h1) (w : ∀ o, P o → Q o) : fr Q h h1 := fun q o e hq hn => z q o e hq (fun y => hn (w o y))
theorem hu_n {h : PH} {a q : Nat} {o2 : Ow} {e' : va_E} {o : Ow} {e : va_E} (ha : h a = none) (hq : h q = some (o, e)) : hu h a o2 e' q = some (o, e) := by
  rw [hu_ne (show q ≠ a from fun w => by rw [w, ha] at hq; cases hq)]; exact hq
abbrev fo1 (o1 o2 : Ow) : Ow → Prop := fun o => o = o1 ∨ o = o2
section AL
variable {G : GT} {h : PH} {l D mc n x i m cap : Nat} {o1 o2 ov : Ow} {L : List Nat}
def ALd (G : GT) (h : PH) (o2 : Ow) (D : Nat) (L : List Nat) : Prop := (D = gS G 0 ∧ L = []) ∨ ∃ (cap : Nat) (f : Nat → Option Nat), h D = some (o2, oa G 4 cap f) ∧ L.length ≤ cap ∧ 10 ≤ cap ∧ cap ≤ 60 ∧ ∀ (i a : Nat), L[i]? = some a → f i = some a
/-- a list at l: of these addresses -/
def AL (G : GT) (h : PH) (o1 o2 : Ow) (l : Nat) (L : List Nat) : Prop := ∃ (mc : Int32) (D : Nat), h l = some (o1, ob 7 [.int mc, .ref D, .int (nI L.length)]) ∧ ALd G h o2 D L
theorem ALd.len (hA : ALd G h o2 D L) : L.length ≤ 60 := by
  rcases hA with ⟨-, e⟩ | ⟨cap, f, h1, h2, h3, h4, h5⟩
  · rw [e]; exact Nat.zero_le _
  · omega
theorem AL.len (hA : AL G h o1 o2 l L) : L.length ≤ 60 := by
  obtain ⟨mc, D, h1, h2⟩ := hA
  exact h2.len
theorem AL.fr {P : Ow → Prop} {h' : PH} (hA : AL G h o1 o2 l L) (z : fr P h h') (n1 : ¬ P o1) (n2 : ¬ P o2) : AL G h' o1 o2 l L := by
  obtain ⟨mc, D, h1, h2⟩ := hA
  refine ⟨mc, D, z _ _ _ h1 n1, ?_⟩
  rcases h2 with e | ⟨cap, f, g1, g2⟩
  · exact Or.inl e
  · exact Or.inr ⟨cap, f, z _ _ _ g1 n2, g2⟩
theorem c_J0_init {a : Nat} : CT G yJ0_init cJ0_init 1 none (rmL 1 0 0) [.ref a] h (fun v h' => v = none ∧ h = h') noX := by
  refine CT_of [some (.ref a)] (by decide +kernel) rfl (Nat.le_of_ble_eq_true rfl) (fun X hC hF hE => ?_)
  refine go_aload_n hC dJ0_init_0 rfl ?_
  refine go_objI hC q137 q118 q119 (Nat.le_of_ble_eq_true rfl) ⟨Nat.le_of_ble_eq_true rfl, Nat.le_of_ble_eq_true rfl⟩ dJ0_init_1 ?_
  refine go_vret hC hF dJ0_init_4 rfl ?_
  exact ⟨rfl, rfl⟩
theorem c_J1_init {o : Ow} (hl : h l = some (o, ob 7 nfJ2)) : CT G yJ1_init cJ1_init 1 none (rmL 2 0 0) [.ref l] h (fun v h' => v = none ∧ hu h l o (ob 7 (nfJ2.set 0 (.int 0))) = h') noX := by
  refine CT_of [some (.ref l)] (by decide +kernel) rfl (Nat.le_of_ble_eq_true rfl) (fun X hC hF hE => ?_)
  refine go_aload_n hC dJ1_init_0 rfl ?_
  refine go_callI0 hC c_J0_init q136 q74 q134 q135 rfl dJ1_init_1 0 rfl (by decide +kernel) rfl ⟨Nat.le_of_ble_eq_true rfl, Nat.le_of_ble_eq_true rfl⟩ (Nat.le_of_ble_eq_true rfl) ⟨rfl, rfl⟩ ?_
  rintro _ _ ⟨rfl, rfl⟩
  refine go_aload_n hC dJ1_init_4 rfl ?_
  refine go_iconst hC (0) dJ1_init_5 (by decide) ?_
  refine go_put hC kJ2 hl 0 q142 dJ1_init_6 (by decide) (Nat.le_of_ble_eq_true rfl) (Or.inl rfl) rfl rfl rfl ?_
  refine go_vret hC hF dJ1_init_9 rfl ?_
  exact ⟨rfl, rfl⟩
theorem c_J2_init (hl : h l = some (o1, ob 7 nfJ2)) : CT G yJ2_init cJ2_init 1 none (rmL 3 0 0) [.ref l] h (fun v h' => v = none ∧ AL G h' o1 o2 l [] ∧ fr (fo1 o1 o2) h h') noX := by
  refine CT_of [some (.ref l)] (by decide +kernel) rfl (Nat.le_of_ble_eq_true rfl) (fun X hC hF hE => ?_)
  refine go_aload_n hC dJ2_init_0 rfl ?_
  refine go_callI0 hC (c_J1_init hl) q133 q75 q131 q132 rfl dJ2_init_1 0 rfl (by decide +kernel) rfl ⟨Nat.le_of_ble_eq_true rfl, Nat.le_of_ble_eq_true rfl⟩ (Nat.le_of_ble_eq_true rfl) ⟨rfl, rfl⟩ ?_
  rintro _ _ ⟨rfl, rfl⟩
  refine go_aload_n hC dJ2_init_4 rfl ?_
  refine go_gets hC hC.2.2.2.2.2.1.2.2.2.2.1 q138 rfl dJ2_init_5 ?_
  refine go_put hC kJ2 hu_eq 1 q140 dJ2_init_8 (by decide) (Nat.le_of_ble_eq_true rfl) (Or.inl rfl) rfl rfl rfl ?_
  refine go_vret hC hF dJ2_init_11 rfl ?_
  exact ⟨rfl, ⟨0, gS G 0, by rw [hu_eq]; rfl, Or.inl ⟨rfl, rfl⟩⟩, (fr.rf.up hl (Or.inl rfl)).up hu_eq (Or.inl rfl)⟩
theorem c_J2_size (hA : AL G h o1 o2 l L) : CT G yJ2_size cJ2_size 1 (some .int) (rmL 1 0 0) [.ref l] h (fun v h' => v = some (.int (nI L.length)) ∧ h = h') noX := by
  obtain ⟨mc, D, hl, hD⟩ := hA
  refine CT_of [some (.ref l)] (by decide +kernel) rfl (Nat.le_of_ble_eq_true rfl) (fun X hC hF hE => ?_)
  refine go_aload_n hC dJ2_size_0 rfl ?_
  refine go_get hC kJ2 hl 2 q141 dJ2_size_1 rfl (by decide) (Or.inl rfl) ?_
  refine go_iret hC hF dJ2_size_4 rfl rfl ?_
  exact ⟨rfl, rfl⟩
theorem c_J2_isEmpty (hA : AL G h o1 o2 l L) : CT G yJ2_isEmpty cJ2_isEmpty 1 (some .boolean) (rmL 1 0 0) [.ref l] h (fun v h' => v = some (.int (bI (decide (L = [])))) ∧ h = h') noX := by
  have hn := hA.len
  obtain ⟨mc, D, hl, hD⟩ := hA
  refine CT_of [some (.ref l)] (by decide +kernel) rfl (Nat.le_of_ble_eq_true rfl) (fun X hC hF hE => ?_)
  refine go_aload_n hC dJ2_isEmpty_0 rfl ?_
  refine go_get hC kJ2 hl 2 q141 dJ2_isEmpty_1 rfl (by decide) (Or.inl rfl) ?_
  refine go_if_ne hC 11 dJ2_isEmpty_4 (by decide) (fun c4 => ?_) (fun c4 => ?_)
  · rw [nI_e0 (by omega)] at c4
    refine go_iconst hC (0) dJ2_isEmpty_11 (by decide) ?_
    refine go_iret hC hF dJ2_isEmpty_12 rfl rfl ?_
    exact ⟨by rw [decide_eq_false (fun z => c4 (by rw [z]; rfl))]; rfl, rfl⟩
  · rw [nI_e0 (by omega)] at c4
    refine go_iconst hC (1) dJ2_isEmpty_7 (by decide) ?_
    refine go_goto hC 12 dJ2_isEmpty_8 (by decide) ?_
    refine go_iret hC hF dJ2_isEmpty_12 rfl rfl ?_
    exact ⟨by rw [decide_eq_true (List.length_eq_zero_iff.mp c4)]; rfl, rfl⟩
theorem c_J18_checkIndex (hi : i < n) (hn : n < 2 ^ 31) (fm : Value) : CT G yJ18_checkIndex cJ18_checkIndex 3 (some .int) (rmL 1 0 0) [.int (nI i), .int (nI n), .null] h (fun v h' => v = some (.int (nI i)) ∧ h = h') noX := by
  refine CT_of [some (.int (nI i)), some (.int (nI n)), some .null] (by decide +kernel) rfl (Nat.le_of_ble_eq_true rfl) (fun X hC hF hE => ?_)
  refine go_iload_n hC dJ18_checkIndex_0 rfl ?_
  refine go_if_lt hC 9 dJ18_checkIndex_1 (by decide) (fun z => absurd z (nI_pos (by omega))) (fun _ => ?_)
  refine go_iload_n hC dJ18_checkIndex_4 rfl ?_
  refine go_iload_n hC dJ18_checkIndex_5 rfl ?_
  refine go_N_lt hC 16 dJ18_checkIndex_6 (by decide) rfl rfl (by omega) (by omega) (fun c6 => ?_) (fun z => absurd z (Nat.not_le.mpr hi))
  refine go_iload_n hC dJ18_checkIndex_16 rfl ?_
  refine go_iret hC hF dJ18_checkIndex_17 rfl rfl ?_
  exact ⟨rfl, rfl⟩
theorem c_J17_checkIndex (hi : i < n) (hn : n < 2 ^ 31) : CT G yJ17_checkIndex cJ17_checkIndex 2 (some .int) (rmL 2 0 0) [.int (nI i), .int (nI n)] h (fun v h' => v = some (.int (nI i)) ∧ h = h') noX := by
  refine CT_of [some (.int (nI i)), some (.int (nI n))] (by decide +kernel) rfl (Nat.le_of_ble_eq_true rfl) (fun X hC hF hE => ?_)
  refine go_iload_n hC dJ17_checkIndex_0 rfl ?_
  refine go_iload_n hC dJ17_checkIndex_1 rfl ?_
  refine go_null hC dJ17_checkIndex_2 ?_
  refine go_callS0 hC (c_J18_checkIndex hi hn .null) (lw_S q1182 q704 q93 q705) dJ17_checkIndex_3 3 rfl (by decide +kernel) rfl ⟨Nat.le_of_ble_eq_true rfl, Nat.le_of_ble_eq_true rfl⟩ (Nat.le_of_ble_eq_true rfl) ⟨rfl, rfl⟩ ?_
  rintro _ _ ⟨rfl, rfl⟩
  refine go_iret hC hF dJ17_checkIndex_6 rfl rfl ?_
  exact ⟨rfl, rfl⟩
theorem c_J2_elementData {f : Nat → Option Nat} {z w : Value} (hl : h l = some (o1, ob 7 [z, .ref D, w])) (hD : h D = some (o2, oa G 4 cap f)) (hi : i < cap) (hc : cap < 2 ^ 31) {r : Nat} (hr : f i = some r) : CT G yJ2_elementData cJ2_elementData 2 (some (.object "java/lang/Object")) (rmL 1 0 0) [.ref l, .int (nI i)] h (fun v h' => v = some (.ref r) ∧ h = h') noX := by
  refine CT_of [some (.ref l), some (.int (nI i))] (by decide +kernel) rfl (Nat.le_of_ble_eq_true rfl) (fun X hC hF hE => ?_)
  refine go_aload_n hC dJ2_elementData_0 rfl ?_
  refine go_get hC kJ2 hl 1 q140 dJ2_elementData_1 rfl (by decide) (Or.inl rfl) ?_
  refine go_iload_n hC dJ2_elementData_4 rfl ?_
  refine go_aald hC i hD rfl dJ2_elementData_5 (by first | rfl | (simp only [nI_add, pk_mul, nI_1, Int32.add_zero]; done) | (simp only [nI_add, pk_mul, nI_1, Int32.add_zero]; exact congrArg nI (by omega))) (by omega) (by omega) hr ?_
  refine go_aret hC hF dJ2_elementData_6 rfl (Or.inl ⟨_, rfl⟩) (Or.inr ⟨_, rfl⟩) ?_
  exact ⟨rfl, rfl⟩
theorem c_J2_get (hA : AL G h o1 o2 l L) {a : Nat} (hi : L[i]? = some a) : CT G yJ2_get cJ2_get 2 (some (.object "java/lang/Object")) (rmL 3 0 0) [.ref l, .int (nI i)] h (fun v h' => v = some (.ref a) ∧ h = h') noX := by
  have hn := hA.len
  have hil : i < L.length := (List.getElem?_eq_some_iff.mp hi).1
  obtain ⟨mc, D, hl, hD⟩ := hA
  refine CT_of [some (.ref l), some (.int (nI i))] (by decide +kernel) rfl (Nat.le_of_ble_eq_true rfl) (fun X hC hF hE => ?_)
  rcases hD with ⟨-, e⟩ | ⟨cap, f, g1, g2, g3, g4, g5⟩
  · rw [e] at hil; exact absurd hil (Nat.not_lt_zero _)
  refine go_iload_n hC dJ2_get_0 rfl ?_
  refine go_aload_n hC dJ2_get_1 rfl ?_
  refine go_get hC kJ2 hl 2 q141 dJ2_get_2 rfl (by decide) (Or.inl rfl) ?_
  refine go_callS0 hC (c_J17_checkIndex hil (by omega)) (lw_S q1179 q1180 q92 q1181) dJ2_get_5 2 rfl (by decide +kernel) rfl ⟨Nat.le_of_ble_eq_true rfl, Nat.le_of_ble_eq_true rfl⟩ (Nat.le_of_ble_eq_true rfl) ⟨rfl, rfl⟩ ?_
  rintro _ _ ⟨rfl, rfl⟩
  refine go_pop hC dJ2_get_8 rfl ?_
  refine go_aload_n hC dJ2_get_9 rfl ?_
  refine go_iload_n hC dJ2_get_10 rfl ?_
  refine go_callV0 hC (c_J2_elementData hl g1 (show i < cap by omega) (by omega) (g5 i a hi)) (lw_V q1183 q1184 q1185 q76 q1186) hl rfl dJ2_get_11 1 rfl (by decide +kernel) rfl ⟨Nat.le_of_ble_eq_true rfl, Nat.le_of_ble_eq_true rfl⟩ (Nat.le_of_ble_eq_true rfl) ⟨rfl, rfl⟩ ?_
  rintro _ _ ⟨rfl, rfl⟩
  refine go_aret hC hF dJ2_get_14 rfl (Or.inl ⟨_, rfl⟩) (Or.inr ⟨_, rfl⟩) ?_
  exact ⟨rfl, rfl⟩
theorem c_J19_newLength (a b c : Nat) (ha : a ≤ 1000) (hb : b ≤ 1000) (hc : c ≤ 1000) (h0 : 0 < a) : CT G yJ19_newLength cJ19_newLength 4 (some .int) (rmL 1 0 0) [.int (nI a), .int (nI b), .int (nI c)] h (fun v h' => v = some (.int (nI (a + max b c))) ∧ h = h') noX := by
  refine CT_of [some (.int (nI a)), some (.int (nI b)), some (.int (nI c)), none] (by decide +kernel) rfl (Nat.le_of_ble_eq_true rfl) (fun X hC hF hE => ?_)
  have e : nI a + (if nI b < nI c then nI c else nI b) = nI (a + max b c) := by
    by_cases q : b < c
    · rw [if_pos (nI_lt q (by omega)), nI_add, Nat.max_eq_right (by omega)]
    · rw [if_neg (nI_nlt (by omega) (by omega)), nI_add, Nat.max_eq_left (by omega)]
  have hm : max b c ≤ 1000 := by omega
  refine go_iload_n hC dJ19_newLength_0 rfl ?_
  refine go_iload_n hC dJ19_newLength_1 rfl ?_
  refine go_iload_n hC dJ19_newLength_2 rfl ?_
  refine go_max hC q334 q335 q90 q336 ⟨Nat.le_of_ble_eq_true rfl, Nat.le_of_ble_eq_true rfl⟩ (Nat.le_of_ble_eq_true rfl) dJ19_newLength_3 ?_
  refine go_iadd hC dJ19_newLength_6 ?_
  rw [e]
  refine go_istore_n hC dJ19_newLength_7 (by decide) ?_
  refine go_iconst hC (0) dJ19_newLength_8 (by decide) ?_
  refine go_iload_n hC dJ19_newLength_9 rfl ?_
  refine go_N_ge hC (a := 0) 21 dJ19_newLength_10 (by decide) rfl rfl (by omega) (by omega) (fun z => absurd z (Nat.not_le.mpr (show 0 < a + max b c by omega))) (fun c10 => ?_)
  refine go_iload_n hC dJ19_newLength_13 rfl ?_
  refine go_ldc hC dJ19_newLength_14 q337 ?_
  refine go_icmp_gt hC 21 dJ19_newLength_16 (by decide) (fun z => absurd z (show ¬ (2147483639 : Int32) < nI (a + max b c) from nI_nlt (show a + max b c ≤ 2147483639 by omega) (by decide))) (fun _ => ?_)
  refine go_iload_n hC dJ19_newLength_19 rfl ?_
  refine go_iret hC hF dJ19_newLength_20 rfl rfl ?_
  exact ⟨rfl, rfl⟩
theorem c_J20_copyOf_3 {f : Nat → Option Nat} {o : Ow} {ci : Nat} {q0 : vw_C} (ol : Ow) (hD : h D = some (o, oa G 4 cap f)) (hm : cap ≤ m) (hm2 : m ≤ 60) (hcl : gcl[ci]? = some q0) (hca : Jvm.Cond.castable q0.1 "java/lang/Object" ∈ lw_tbl) (hel : ∀ i, i < cap → ∀ y : Nat, f i = some y → ∃ (o2 : Ow) (vs : List Value), h y = some (o2, ob ci vs)) : CT G yJ20_copyOf_3 cJ20_copyOf_3 4 (some (.array (.object "java/lang/Object"))) (rmL 1 1 60) [.ref D, .int (nI m), .ref (gS G 3)] h (fun v h' => ∃ q, v = some (.ref q) ∧ h q = none ∧ hu h q ol (oa G 4 m (va_cpy f (fun _ => none) 0 0 cap)) = h') noX := by
  refine CT_of [some (.ref D), some (.int (nI m)), some (.ref (gS G 3)), none] (by decide +kernel) rfl (Nat.le_of_ble_eq_true rfl) (fun X hC hF hE => ?_)
  have e : (if nI m < nI cap then nI m else nI cap) = nI cap := if_neg (nI_nlt hm (by omega))
  show Go X G h 1 60 0 _ _
  refine go_aload_n hC dJ20_copyOf_3_0 rfl ?_
  refine go_ldcC hC q1271 dJ20_copyOf_3_1 ?_
  refine go_acmp_ne_rr hC 13 dJ20_copyOf_3_3 (by decide) (fun z => absurd rfl z) (fun _ => ?_)
  refine go_iload_n hC dJ20_copyOf_3_6 rfl ?_
  refine go_newq hC 4 m (fun _ => ol) q1273 hC.2.2.2.2.2.1.2.2.1.1 rfl rfl (by omega) (by omega) (by omega) dJ20_copyOf_3_7 (fun q qn qb => ?_)
  refine go_goto hC 24 dJ20_copyOf_3_10 (by decide) ?_
  refine go_astore_n hC dJ20_copyOf_3_24 (by decide) ?_
  refine go_aload_n hC dJ20_copyOf_3_25 rfl ?_
  refine go_iconst hC (0) dJ20_copyOf_3_26 (by decide) ?_
  refine go_aload_n hC dJ20_copyOf_3_27 rfl ?_
  refine go_iconst hC (0) dJ20_copyOf_3_28 (by decide) ?_
  refine go_aload_n hC dJ20_copyOf_3_29 rfl ?_
  refine go_alen hC (hu_n qn hD) rfl dJ20_copyOf_3_30 ?_
  refine go_iload_n hC dJ20_copyOf_3_31 rfl ?_
  refine go_min hC q352 q353 q90 q354 ⟨Nat.le_of_ble_eq_true rfl, Nat.le_of_ble_eq_true rfl⟩ (Nat.le_of_ble_eq_true rfl) dJ20_copyOf_3_32 ?_
  refine go_copyq (C := "") hC 0 0 cap q355 q357 q356 q94 rfl (hu_n qn hD) hu_eq rfl rfl e (by omega) (by omega) (by omega) (by omega) hcl (fun i hi y hy => by rw [Nat.zero_add] at hy; obtain ⟨o2, vs, hv⟩ := hel i hi y hy; exact ⟨o2, vs, hu_n qn hv⟩) hca ⟨Nat.le_of_ble_eq_true rfl, Nat.le_of_ble_eq_true rfl⟩ (Nat.le_of_ble_eq_true rfl) dJ20_copyOf_3_35 ?_
  refine go_aload_n hC dJ20_copyOf_3_38 rfl ?_
  refine go_aret hC hF dJ20_copyOf_3_39 rfl (Or.inr ⟨_, rfl⟩) (Or.inr ⟨_, rfl⟩) ?_
  rw [hu_hu]
  exact ⟨q, rfl, qn, rfl⟩
theorem c_J20_copyOf_2 {f : Nat → Option Nat} {o : Ow} {ci : Nat} {q0 : vw_C} (ol : Ow) (hD : h D = some (o, oa G 4 cap f)) (hm : cap ≤ m) (hm2 : m ≤ 60) (hcl : gcl[ci]? = some q0) (hca : Jvm.Cond.castable q0.1 "java/lang/Object" ∈ lw_tbl) (hel : ∀ i, i < cap → ∀ y : Nat, f i = some y → ∃ (o2 : Ow) (vs : List Value), h y = some (o2, ob ci vs)) : CT G yJ20_copyOf_2 cJ20_copyOf_2 2 (some (.array (.object "java/lang/Object"))) (rmL 2 1 60) [.ref D, .int (nI m)] h (fun v h' => ∃ q, v = some (.ref q) ∧ h q = none ∧ hu h q ol (oa G 4 m (va_cpy f (fun _ => none) 0 0 cap)) = h') noX := by
  refine CT_of [some (.ref D), some (.int (nI m))] (by decide +kernel) rfl (Nat.le_of_ble_eq_true rfl) (fun X hC hF hE => ?_)
  show Go X G h 1 60 0 _ _
  refine go_aload_n hC dJ20_copyOf_2_0 rfl ?_
  refine go_iload_n hC dJ20_copyOf_2_1 rfl ?_
  refine go_aload_n hC dJ20_copyOf_2_2 rfl ?_
  refine go_getC hC hD q1267 q2102 ⟨Nat.le_of_ble_eq_true rfl, Nat.le_of_ble_eq_true rfl⟩ (Nat.le_of_ble_eq_true rfl) dJ20_copyOf_2_3 ?_
  refine go_callS hC (c_J20_copyOf_3 ol hD hm hm2 hcl hca hel) (lw_S q1268 q1269 q97 q1270) dJ20_copyOf_2_6 3 rfl (by decide +kernel) rfl ⟨Nat.le_of_ble_eq_true rfl, Nat.le_of_ble_eq_true rfl⟩ (Nat.le_of_ble_eq_true rfl) (Nat.le_refl _) (Nat.le_refl _) ?_
  rintro _ _ ⟨q, rfl, qn, rfl⟩
  refine go_aret hC hF dJ20_copyOf_2_9 rfl (Or.inr ⟨_, rfl⟩) (Or.inr ⟨_, rfl⟩) ?_
  exact ⟨q, rfl, qn, rfl⟩
/-- a list that is full grows -/
theorem c_J2_grow_2 {mc : Int32} {ci : Nat} {q0 : vw_C} (hl : h l = some (o1, ob 7 [.int mc, .ref D, .int (nI L.length)])) (hn : L.length ≤ 40) (hfull : D = gS G 0 ∧ L = [] ∨ ∃ f, h D = some (o2, oa G 4 L.length f) ∧ 10 ≤ L.length ∧ ∀ (i a : Nat), L[i]? = some a → f i = some a) (hcl : gcl[ci]? = some q0) (hca : Jvm.Cond.castable q0.1 "java/lang/Object" ∈ lw_tbl) (hel : ∀ a ∈ L, ∃ (o2 : Ow) (vs : List Value), h a = some (o2, ob ci vs)) : CT G yJ2_grow_2 cJ2_grow_2 4 (some (.array (.object "java/lang/Object"))) (rmL 3 1 60) [.ref l, .int (nI (L.length + 1))] h (fun v h' => ∃ q cap f, v = some (.ref q) ∧ h q = none ∧ L.length < cap ∧ 10 ≤ cap ∧ cap ≤ 60 ∧ (∀ (i a : Nat), L[i]? = some a → f i = some a) ∧ hu (hu h q o2 (oa G 4 cap f)) l o1 (ob 7 [.int mc, .ref q, .int (nI L.length)]) = h') noX := by
  refine CT_of [some (.ref l), some (.int (nI (L.length + 1))), none, none] (by decide +kernel) rfl (Nat.le_of_ble_eq_true rfl) (fun X hC hF hE => ?_)
  show Go X G h 1 60 0 _ _
  rcases hfull with ⟨e1, e2⟩ | g1
  · subst e1
    subst e2
    refine go_aload_n hC dJ2_grow_2_0 rfl ?_
    refine go_get hC kJ2 hl 1 q140 dJ2_grow_2_1 rfl (by decide) (Or.inl rfl) ?_
    refine go_tlen hC hC.2.2.2.2.2.1.2.2.2.2.2.1 dJ2_grow_2_4 ?_
    refine go_istore_n hC dJ2_grow_2_5 (by decide) ?_
    refine go_iload_n hC dJ2_grow_2_6 rfl ?_
    refine go_if_gt hC 20 dJ2_grow_2_7 (by decide) (fun z => absurd z (show ¬ 0 < nI 0 by decide)) (fun _ => ?_)
    refine go_aload_n hC dJ2_grow_2_10 rfl ?_
    refine go_get hC kJ2 hl 1 q140 dJ2_grow_2_11 rfl (by decide) (Or.inl rfl) ?_
    refine go_gets hC hC.2.2.2.2.2.1.2.2.2.2.1 q138 rfl dJ2_grow_2_14 ?_
    refine go_acmp_eq_rr hC 45 dJ2_grow_2_17 (by decide) (fun _ => ?_) (fun z => absurd rfl z)
    refine go_aload_n hC dJ2_grow_2_45 rfl ?_
    refine go_bipush hC (nI 10) dJ2_grow_2_46 (by decide) ?_
    refine go_iload_n hC dJ2_grow_2_48 rfl ?_
    refine go_max hC q1274 q335 q90 q336 ⟨Nat.le_of_ble_eq_true rfl, Nat.le_of_ble_eq_true rfl⟩ (Nat.le_of_ble_eq_true rfl) dJ2_grow_2_49 ?_
    refine go_newq hC 4 10 (fun _ => o2) q1275 hC.2.2.2.2.2.1.2.2.1.1 rfl rfl (by omega) (by omega) (by omega) dJ2_grow_2_52 (fun q qn qb => ?_)
    refine go_dup_x1 hC dJ2_grow_2_55 rfl rfl ?_
    refine go_put hC kJ2 (hu_n qn hl) 1 q140 dJ2_grow_2_56 (by decide) (Nat.le_of_ble_eq_true rfl) (Or.inl rfl) rfl rfl rfl ?_
    refine go_aret hC hF dJ2_grow_2_59 rfl (Or.inr ⟨_, rfl⟩) (Or.inr ⟨_, rfl⟩) ?_
    exact ⟨q, 10, fun _ => none, rfl, qn, by decide, by decide, by decide, fun i a hi => by simp at hi, rfl⟩
  · obtain ⟨f, g1, hL0, g5⟩ := g1
    have hel2 : ∀ i, i < L.length → ∀ y : Nat, f i = some y → ∃ (o2 : Ow) (vs : List Value), h y = some (o2, ob ci vs) := by
      intro i hi y hy
      rw [g5 i _ (List.getElem?_eq_getElem hi)] at hy
      cases hy
      exact hel _ (List.getElem_mem hi)
    have e1 : nI (L.length + 1) - nI L.length = nI 1 := by
      rw [pk_sub (by omega), Nat.add_sub_cancel_left]
    have e2 : nI L.length >>> ((1 : Int32) &&& 31) = nI (L.length / 2) := by
      have k := pk_shrN (n := L.length) (by omega) ((1 : Int32) &&& 31) 1 (by decide)
      rw [Nat.pow_one] at k
      exact k
    have e3 : L.length + max 1 (L.length / 2) = L.length + L.length / 2 := by omega
    refine go_aload_n hC dJ2_grow_2_0 rfl ?_
    refine go_get hC kJ2 hl 1 q140 dJ2_grow_2_1 rfl (by decide) (Or.inl rfl) ?_
    refine go_alen hC g1 rfl dJ2_grow_2_4 ?_
    refine go_istore_n hC dJ2_grow_2_5 (by decide) ?_
    refine go_iload_n hC dJ2_grow_2_6 rfl ?_
    refine go_if_gt hC 20 dJ2_grow_2_7 (by decide) (fun _ => ?_) (fun z => absurd (show 0 < nI L.length from nI_lt (a := 0) (by omega) (by omega)) z)
    refine go_iload_n hC dJ2_grow_2_20 rfl ?_
    refine go_iload_n hC dJ2_grow_2_21 rfl ?_
    refine go_iload_n hC dJ2_grow_2_22 rfl ?_
    refine go_isub hC dJ2_grow_2_23 ?_
    rw [e1]
    refine go_iload_n hC dJ2_grow_2_24 rfl ?_
    refine go_iconst hC (1) dJ2_grow_2_25 (by decide) ?_
    refine go_ishr hC dJ2_grow_2_26 ?_
    rw [e2]
    refine go_callS0 hC (c_J19_newLength L.length 1 (L.length / 2) (by omega) (by omega) (by omega) (by omega)) (lw_S q1263 q332 q96 q333) dJ2_grow_2_27 3 rfl (by decide +kernel) rfl ⟨Nat.le_of_ble_eq_true rfl, Nat.le_of_ble_eq_true rfl⟩ (Nat.le_of_ble_eq_true rfl) ⟨rfl, rfl⟩ ?_
    rintro _ _ ⟨rfl, rfl⟩
    rw [e3]
    refine go_istore_n hC dJ2_grow_2_30 (by decide) ?_
    refine go_aload_n hC dJ2_grow_2_31 rfl ?_
    refine go_aload_n hC dJ2_grow_2_32 rfl ?_
    refine go_get hC kJ2 hl 1 q140 dJ2_grow_2_33 rfl (by decide) (Or.inl rfl) ?_
    refine go_iload_n hC dJ2_grow_2_36 rfl ?_
    refine go_callS hC (c_J20_copyOf_2 o2 g1 (show L.length ≤ L.length + L.length / 2 by omega) (by omega) hcl hca hel2) (lw_S q1264 q1265 q97 q1266) dJ2_grow_2_37 2 rfl (by decide +kernel) rfl ⟨Nat.le_of_ble_eq_true rfl, Nat.le_of_ble_eq_true rfl⟩ (Nat.le_of_ble_eq_true rfl) (Nat.le_refl _) (Nat.le_refl _) ?_
    rintro _ _ ⟨q, rfl, qn, rfl⟩
    refine go_dup_x1 hC dJ2_grow_2_40 rfl rfl ?_
    refine go_put hC kJ2 (hu_n qn hl) 1 q140 dJ2_grow_2_41 (by decide) (Nat.le_of_ble_eq_true rfl) (Or.inl rfl) rfl rfl rfl ?_
    refine go_aret hC hF dJ2_grow_2_44 rfl (Or.inr ⟨_, rfl⟩) (Or.inr ⟨_, rfl⟩) ?_
    refine ⟨q, L.length + L.length / 2, _, rfl, qn, by omega, by omega, by omega, fun i a hi => ?_, rfl⟩
    rw [pk_cpy_in (Nat.zero_le _) (by have := (List.getElem?_eq_some_iff.mp hi).1; omega)]
    rw [Nat.zero_add]
    exact g5 i a hi
theorem c_J2_grow {mc : Int32} {ci : Nat} {q0 : vw_C} (hl : h l = some (o1, ob 7 [.int mc, .ref D, .int (nI L.length)])) (hn : L.length ≤ 40) (hfull : D = gS G 0 ∧ L = [] ∨ ∃ f, h D = some (o2, oa G 4 L.length f) ∧ 10 ≤ L.length ∧ ∀ (i a : Nat), L[i]? = some a → f i = some a) (hcl : gcl[ci]? = some q0) (hca : Jvm.Cond.castable q0.1 "java/lang/Object" ∈ lw_tbl) (hel : ∀ a ∈ L, ∃ (o2 : Ow) (vs : List Value), h a = some (o2, ob ci vs)) : CT G yJ2_grow cJ2_grow 1 (some (.array (.object "java/lang/Object"))) (rmL 4 1 60) [.ref l] h (fun v h' => ∃ q cap f, v = some (.ref q) ∧ h q = none ∧ L.length < cap ∧ 10 ≤ cap ∧ cap ≤ 60 ∧ (∀ (i a : Nat), L[i]? = some a → f i = some a) ∧ hu (hu h q o2 (oa G 4 cap f)) l o1 (ob 7 [.int mc, .ref q, .int (nI L.length)]) = h') noX := by
  refine CT_of [some (.ref l)] (by decide +kernel) rfl (Nat.le_of_ble_eq_true rfl) (fun X hC hF hE => ?_)
  show Go X G h 1 60 0 _ _
  refine go_aload_n hC dJ2_grow_0 rfl ?_
  refine go_aload_n hC dJ2_grow_1 rfl ?_
  refine go_get hC kJ2 hl 2 q141 dJ2_grow_2 rfl (by decide) (Or.inl rfl) ?_
  refine go_iconst hC (1) dJ2_grow_5 (by decide) ?_
  refine go_iadd hC dJ2_grow_6 ?_
  rw [nI_1]
  refine go_callV hC (c_J2_grow_2 hl hn hfull hcl hca hel) (lw_V q1259 q1261 qs21 q76 q1262) hl rfl dJ2_grow_7 1 rfl (by decide +kernel) rfl ⟨Nat.le_of_ble_eq_true rfl, Nat.le_of_ble_eq_true rfl⟩ (Nat.le_of_ble_eq_true rfl) (Nat.le_refl _) (Nat.le_refl _) ?_
  rintro _ _ ⟨q, cap, f, rfl, z1, z2, z3, z4, z5, rfl⟩
  refine go_aret hC hF dJ2_grow_10 rfl (Or.inr ⟨_, rfl⟩) (Or.inr ⟨_, rfl⟩) ?_
  exact ⟨q, cap, f, rfl, z1, z2, z3, z4, z5, rfl⟩
theorem c_J2_add_2 {mc : Int32} {ci : Nat} {q0 : vw_C} {vs : List Value} (hl : h l = some (o1, ob 7 [.int mc, .ref D, .int (nI L.length)])) (hD : ALd G h o2 D L) (ho : o1 ≠ o2) (hn : L.length ≤ 40) (hcl : gcl[ci]? = some q0) (hca : Jvm.Cond.castable q0.1 "java/lang/Object" ∈ lw_tbl) (hel : ∀ a ∈ L, ∃ (o2 : Ow) (vs : List Value), h a = some (o2, ob ci vs)) (hx : h x = some (ov, ob ci vs)) (hov : ov ≠ o1 ∧ ov ≠ o2) : CT G yJ2_add_2 cJ2_add_2 4 none (rmL 5 1 60) [.ref l, .ref x, .ref D, .int (nI L.length)] h (fun v h' => v = none ∧ AL G h' o1 o2 l (L ++ [x]) ∧ fr (fo1 o1 o2) h h') noX := by
  refine CT_of [some (.ref l), some (.ref x), some (.ref D), some (.int (nI L.length))] (by decide +kernel) rfl (Nat.le_of_ble_eq_true rfl) (fun X hC hF hE => ?_)
  show Go X G h 1 60 0 _ _
  have fin : ∀ (h1 : PH) (k n : Nat) (D1 cap : Nat) (f : Nat → Option Nat), h1 l = some (o1, ob 7 [.int mc, .ref D1, .int (nI L.length)]) → h1 D1 = some (o2, oa G 4 cap f) → L.length < cap → 10 ≤ cap → cap ≤ 60 → (∀ (i a : Nat), L[i]? = some a → f i = some a) → fr (fo1 o1 o2) h h1 → Go X G h1 k n 11 [some (.ref l), some (.ref x), some (.ref D1), some (.int (nI L.length))] [] := by
    intro h1 k n D1 cap f hl1 hD1 z1 z2 z3 z4 z5
    have hx1 := z5 _ _ _ hx (fun y => y.elim hov.1 hov.2)
    refine go_aload_n hC dJ2_add_2_11 rfl ?_
    refine go_iload_n hC dJ2_add_2_12 rfl ?_
    refine go_aload_n hC dJ2_add_2_13 rfl ?_
    refine go_aastO hC L.length hD1 rfl hx1 hcl hca dJ2_add_2_14 (by first | rfl | (simp only [nI_add, pk_mul, nI_1, Int32.add_zero]; done) | (simp only [nI_add, pk_mul, nI_1, Int32.add_zero]; exact congrArg nI (by omega))) (by omega) (by omega) ?_
    refine go_aload_n hC dJ2_add_2_15 rfl ?_
    refine go_iload_n hC dJ2_add_2_16 rfl ?_
    refine go_iconst hC (1) dJ2_add_2_17 (by decide) ?_
    refine go_iadd hC dJ2_add_2_18 ?_
    rw [nI_1]
    refine go_put hC kJ2 (hu_k hl1 hD1 ho) 2 q141 dJ2_add_2_19 (by decide) (Nat.le_of_ble_eq_true rfl) (Or.inl rfl) rfl rfl rfl ?_
    refine go_vret hC hF dJ2_add_2_22 rfl ?_
    refine ⟨rfl, ⟨mc, D1, ?_, Or.inr ⟨cap, va_up f L.length (some x), hu_k hu_eq (hu_k hl1 hD1 ho) (Ne.symm ho), ?_, z2, z3, fun i a hi => ?_⟩⟩, (z5.up hD1 (Or.inr rfl)).up (hu_k hl1 hD1 ho) (Or.inl rfl)⟩
    · rw [hu_eq, List.length_append, List.length_singleton]; rfl
    · rw [List.length_append, List.length_singleton]; omega
    · rcases Nat.lt_or_ge i L.length with q | q
      · rw [List.getElem?_append_left q] at hi
        have : va_up f L.length (some x) i = f i := if_neg (by omega)
        rw [this]; exact z4 i a hi
      · have hk2 := (List.getElem?_eq_some_iff.mp hi).1
        rw [List.length_append, List.length_singleton] at hk2
        have hkl : i = L.length := by omega
        subst hkl
        rw [List.getElem?_append_right (Nat.le_refl _), Nat.sub_self] at hi
        cases hi
        exact if_pos rfl
  have grow : (D = gS G 0 ∧ L = [] ∨ ∃ f, h D = some (o2, oa G 4 L.length f) ∧ 10 ≤ L.length ∧ ∀ (i a : Nat), L[i]? = some a → f i = some a) → Go X G h 1 60 6 [some (.ref l), some (.ref x), some (.ref D), some (.int (nI L.length))] [] := by
    intro hfull
    refine go_aload_n hC dJ2_add_2_6 rfl ?_
    refine go_callV hC (c_J2_grow hl hn hfull hcl hca hel) (lw_V q1255 q1257 qs20 q76 q1258) hl rfl dJ2_add_2_7 0 rfl (by decide +kernel) rfl ⟨Nat.le_of_ble_eq_true rfl, Nat.le_of_ble_eq_true rfl⟩ (Nat.le_of_ble_eq_true rfl) (Nat.le_refl _) (Nat.le_refl _) ?_
    rintro _ _ ⟨q, cap, f, rfl, z1, z2, z3, z4, z5, rfl⟩
    refine go_astore_n hC dJ2_add_2_10 (by decide) ?_
    exact fin _ _ _ q cap f hu_eq (hu_k hu_eq (hu_n z1 hl) (Ne.symm ho)) z2 z3 z4 z5 ((fr.rf.nw z1).up (hu_n z1 hl) (Or.inl rfl))
  rcases hD with ⟨e1, e2⟩ | ⟨cap, f, g1, g2, g3, g4, g5⟩
  · subst e1
    refine go_iload_n hC dJ2_add_2_0 rfl ?_
    refine go_aload_n hC dJ2_add_2_1 rfl ?_
    refine go_tlen hC hC.2.2.2.2.2.1.2.2.2.2.2.1 dJ2_add_2_2 ?_
    refine go_icmp_ne hC 11 dJ2_add_2_3 (by decide) (fun z => absurd (show nI L.length = nI 0 by rw [e2]; rfl) z) (fun _ => ?_)
    exact grow (Or.inl ⟨rfl, e2⟩)
  · by_cases q : L.length = cap
    · refine go_iload_n hC dJ2_add_2_0 rfl ?_
      refine go_aload_n hC dJ2_add_2_1 rfl ?_
      refine go_alen hC g1 rfl dJ2_add_2_2 ?_
      refine go_icmp_ne hC 11 dJ2_add_2_3 (by decide) (fun z => absurd (show nI L.length = nI cap by rw [q]) z) (fun _ => ?_)
      exact grow (Or.inr ⟨f, by rw [q]; exact g1, by omega, g5⟩)
    · refine go_iload_n hC dJ2_add_2_0 rfl ?_
      refine go_aload_n hC dJ2_add_2_1 rfl ?_
      refine go_alen hC g1 rfl dJ2_add_2_2 ?_
      refine go_N_ne hC 11 dJ2_add_2_3 (by decide) rfl rfl (by omega) (by omega) (fun c3 => ?_) (fun z => absurd z q)
      exact fin h _ _ D cap f hl g1 (by omega) g3 g4 g5 fr.rf
theorem ob_ne {a b ci cj : Nat} {o o2 : Ow} {fs gs : List Value} (ha : h a = some (o, ob ci fs)) (hb : h b = some (o2, ob cj gs)) (n : ci ≠ cj) : a ≠ b := by
  intro e
  rw [e, hb] at ha
  cases ha
  exact n rfl
theorem oa_ne {a b ci t m : Nat} {o o2 : Ow} {fs : List Value} {f : Nat → Option Nat} (ha : h a = some (o, ob ci fs)) (hb : h b = some (o2, oa G t m f)) : a ≠ b := by
  intro e
  rw [e, hb] at ha
  cases ha
theorem el_hu {ci : Nat} {fs gs : List Value} (hl : h l = some (o1, ob 7 fs)) (h7 : ci ≠ 7) (hel : ∀ a ∈ L, ∃ (o2 : Ow) (vs : List Value), h a = some (o2, ob ci vs)) : ∀ a ∈ L, ∃ (o2 : Ow) (vs : List Value), hu h l o1 (ob 7 gs) a = some (o2, ob ci vs) := by
  intro a ha
  obtain ⟨o3, vs, hv⟩ := hel a ha
  exact ⟨o3, vs, by rw [hu_ne (ob_ne hv hl h7)]; exact hv⟩
theorem ALd.hu {fs gs : List Value} (hl : h l = some (o1, ob 7 fs)) (hD : ALd G h o2 D L) : ALd G (hu h l o1 (ob 7 gs)) o2 D L := by
  rcases hD with e | ⟨cap, f, g1, g2⟩
  · exact Or.inl e
  · exact Or.inr ⟨cap, f, by rw [hu_ne (Ne.symm (oa_ne hl g1))]; exact g1, g2⟩
theorem c_J2_add {ci : Nat} {q0 : vw_C} {vs : List Value} (hA : AL G h o1 o2 l L) (ho : o1 ≠ o2) (hn : L.length ≤ 40) (hcl : gcl[ci]? = some q0) (h7 : ci ≠ 7) (hca : Jvm.Cond.castable q0.1 "java/lang/Object" ∈ lw_tbl) (hel : ∀ a ∈ L, ∃ (o2 : Ow) (vs : List Value), h a = some (o2, ob ci vs)) (hx : h x = some (ov, ob ci vs)) (hov : ov ≠ o1 ∧ ov ≠ o2) : CT G yJ2_add cJ2_add 2 (some .boolean) (rmL 6 1 60) [.ref l, .ref x] h (fun v h' => v = some (.int 1) ∧ AL G h' o1 o2 l (L ++ [x]) ∧ fr (fo1 o1 o2) h h') noX := by
  obtain ⟨mc, D, hl, hD⟩ := hA
  refine CT_of [some (.ref l), some (.ref x)] (by decide +kernel) rfl (Nat.le_of_ble_eq_true rfl) (fun X hC hF hE => ?_)
  show Go X G h 1 60 0 _ _
  have hD1 : ALd G (hu h l o1 (ob 7 [.int (mc + 1), .ref D, .int (nI L.length)])) o2 D L := hD.hu hl
  refine go_aload_n hC dJ2_add_0 rfl ?_
  refine go_dup hC dJ2_add_1 rfl ?_
  refine go_get hC kJ2 hl 0 q143 dJ2_add_2 rfl (by decide) (Or.inr q144) ?_
  refine go_iconst hC (1) dJ2_add_5 (by decide) ?_
  refine go_iadd hC dJ2_add_6 ?_
  refine go_put hC kJ2 hl 0 q143 dJ2_add_7 (by decide) (Nat.le_of_ble_eq_true rfl) (Or.inr q144) rfl rfl rfl ?_
  refine go_aload_n hC dJ2_add_10 rfl ?_
  refine go_aload_n hC dJ2_add_11 rfl ?_
  refine go_aload_n hC dJ2_add_12 rfl ?_
  refine go_get hC kJ2 hu_eq 1 q140 dJ2_add_13 rfl (by decide) (Or.inl rfl) ?_
  refine go_aload_n hC dJ2_add_16 rfl ?_
  refine go_get hC kJ2 hu_eq 2 q141 dJ2_add_17 rfl (by decide) (Or.inl rfl) ?_
  refine go_callV hC (c_J2_add_2 hu_eq hD1 ho hn hcl hca (el_hu hl h7 hel) (by rw [hu_ne (ob_ne hx hl h7)]; exact hx) hov) (lw_V q1251 q1253 qs19 q76 q1254) hu_eq rfl dJ2_add_20 3 rfl (by decide +kernel) rfl ⟨Nat.le_of_ble_eq_true rfl, Nat.le_of_ble_eq_true rfl⟩ (Nat.le_of_ble_eq_true rfl) (Nat.le_refl _) (Nat.le_refl _) ?_
  rintro _ h2 ⟨rfl, hA2, hf2⟩
  refine go_iconst hC (1) dJ2_add_23 (by decide) ?_
  refine go_iret hC hF dJ2_add_24 rfl rfl ?_
  exact ⟨rfl, hA2, (fr.rf.up hl (Or.inl rfl)).tr hf2⟩
theorem c_J2_clear (hA : AL G h o1 o2 l L) (ho : o1 ≠ o2) : CT G yJ2_clear cJ2_clear 4 none (rmL 1 0 0) [.ref l] h (fun v h' => v = none ∧ AL G h' o1 o2 l [] ∧ fr (fo1 o1 o2) h h') noX := by
  have hn := hA.len
  obtain ⟨mc, D, hl, hD⟩ := hA
  refine CT_of [some (.ref l), none, none, none] (by decide +kernel) rfl (Nat.le_of_ble_eq_true rfl) (fun X hC hF hE => ?_)
  refine go_aload_n hC dJ2_clear_0 rfl ?_
  refine go_dup hC dJ2_clear_1 rfl ?_
  refine go_get hC kJ2 hl 0 q143 dJ2_clear_2 rfl (by decide) (Or.inr q144) ?_
  refine go_iconst hC (1) dJ2_clear_5 (by decide) ?_
  refine go_iadd hC dJ2_clear_6 ?_
  refine go_put hC kJ2 hl 0 q143 dJ2_clear_7 (by decide) (Nat.le_of_ble_eq_true rfl) (Or.inr q144) rfl rfl rfl ?_
  refine go_aload_n hC dJ2_clear_10 rfl ?_
  refine go_get hC kJ2 hu_eq 1 q140 dJ2_clear_11 rfl (by decide) (Or.inl rfl) ?_
  refine go_astore_n hC dJ2_clear_14 (by decide) ?_
  refine go_aload_n hC dJ2_clear_15 rfl ?_
  refine go_get hC kJ2 hu_eq 2 q141 dJ2_clear_16 rfl (by decide) (Or.inl rfl) ?_
  refine go_istore_n hC dJ2_clear_19 (by decide) ?_
  refine go_aload_n hC dJ2_clear_20 rfl ?_
  refine go_iconst hC (0) dJ2_clear_21 (by decide) ?_
  refine go_dup_x1 hC dJ2_clear_22 rfl rfl ?_
  refine go_put hC kJ2 hu_eq 2 q141 dJ2_clear_23 (by decide) (Nat.le_of_ble_eq_true rfl) (Or.inl rfl) rfl rfl rfl ?_
  rw [hu_hu]
  refine go_istore_n hC dJ2_clear_26 (by decide) ?_
  rcases hD with ⟨e1, e2⟩ | ⟨cap, f, g1, g2, g3, g4, g5⟩
  · refine go_iload_n hC dJ2_clear_27 rfl ?_
    refine go_iload_n hC dJ2_clear_28 rfl ?_
    refine go_N_ge hC (a := 0) 42 dJ2_clear_29 (by decide) rfl rfl (by omega) (by omega) (fun c29 => ?_) (fun z => absurd z (by rw [e2]; decide))
    refine go_vret hC hF dJ2_clear_42 rfl ?_
    exact ⟨rfl, ⟨_, D, by rw [hu_eq]; rfl, Or.inl ⟨e1, rfl⟩⟩, fr.rf.up hl (Or.inl rfl)⟩
  · generalize hh : hu h l o1 _ = h1
    have hl1 : h1 l = some (o1, ob 7 [.int (mc + 1), .ref D, .int (nI 0)]) := by rw [← hh, hu_eq]; rfl
    have g1' : h1 D = some (o2, oa G 4 cap f) := by rw [← hh]; exact hu_k g1 hl (Ne.symm ho)
    have hf1 : fr (fo1 o1 o2) h h1 := by rw [← hh]; exact fr.rf.up hl (Or.inl rfl)
    have loop : ∀ (i : Nat) (f : Nat → Option Nat), i ≤ L.length → Go X G (hu h1 D o2 (oa G 4 cap f)) 0 0 27 [some (.ref l), some (.ref D), some (.int (nI L.length)), some (.int (nI i))] [] := by
      refine lpB (fun i _ => L.length - i) (fun i f ih hi => ?_)
      refine go_iload_n hC dJ2_clear_27 rfl ?_
      refine go_iload_n hC dJ2_clear_28 rfl ?_
      refine go_N_ge hC 42 dJ2_clear_29 (by decide) rfl rfl (by omega) (by omega) (fun c29 => ?_) (fun c29 => ?_)
      · refine go_vret hC hF dJ2_clear_42 rfl ?_
        exact ⟨rfl, ⟨_, D, hu_k hl1 g1' ho, Or.inr ⟨cap, f, hu_eq, Nat.zero_le _, g3, g4, fun i a hi => by simp at hi⟩⟩, hf1.up g1' (Or.inr rfl)⟩
      · refine go_aload_n hC dJ2_clear_32 rfl ?_
        refine go_iload_n hC dJ2_clear_33 rfl ?_
        refine go_null hC dJ2_clear_34 ?_
        refine go_aastN hC i hu_eq rfl dJ2_clear_35 (by first | rfl | (simp only [nI_add, pk_mul, nI_1, Int32.add_zero]; done) | (simp only [nI_add, pk_mul, nI_1, Int32.add_zero]; exact congrArg nI (by omega))) (by omega) (by omega) ?_
        rw [hu_hu]
        refine go_iinc hC (v := nI (i + 1)) dJ2_clear_36 rfl (nI_1 _) (by decide) ?_
        refine go_goto hC 27 dJ2_clear_39 (by decide) ?_
        exact ih (i + 1) _ (by omega) (by omega)
    have e0 : hu h1 D o2 (oa G 4 cap f) = h1 := hu_id g1'
    rw [← e0]
    exact loop 0 f (Nat.zero_le _)
theorem c_J2_fastRemove {mc : Int32} {ci : Nat} {q0 : vw_C} {f : Nat → Option Nat} (hl : h l = some (o1, ob 7 [.int mc, .ref D, .int (nI L.length)])) (g1 : h D = some (o2, oa G 4 cap f)) (g2 : L.length ≤ cap) (g3 : 10 ≤ cap) (g4 : cap ≤ 60) (g5 : ∀ (i a : Nat), L[i]? = some a → f i = some a) (ho : o1 ≠ o2) (hi : i < L.length) (hcl : gcl[ci]? = some q0) (h7 : ci ≠ 7) (hca : Jvm.Cond.castable q0.1 "java/lang/Object" ∈ lw_tbl) (hel : ∀ a ∈ L, ∃ (o2 : Ow) (vs : List Value), h a = some (o2, ob ci vs)) : CT G yJ2_fastRemove cJ2_fastRemove 4 none (rmL 2 0 0) [.ref l, .ref D, .int (nI i)] h (fun v h' => v = none ∧ AL G h' o1 o2 l (L.eraseIdx i) ∧ fr (fo1 o1 o2) h h') noX := by
  refine CT_of [some (.ref l), some (.ref D), some (.int (nI i)), none] (by decide +kernel) rfl (Nat.le_of_ble_eq_true rfl) (fun X hC hF hE => ?_)
  have e1 : nI L.length - 1 = nI (L.length - 1) := pk_sub (b := 1) (by omega)
  have hlen : (L.eraseIdx i).length = L.length - 1 := by rw [List.length_eraseIdx, if_pos hi]
  generalize hh : hu h l o1 (ob 7 ([.int mc, .ref D, .int (nI L.length)].set 0 (.int (mc + 1)))) = h1
  have hl1 : h1 l = some (o1, ob 7 [.int (mc + 1), .ref D, .int (nI L.length)]) := by rw [← hh, hu_eq]; rfl
  have g1' : h1 D = some (o2, oa G 4 cap f) := by rw [← hh]; exact hu_k g1 hl (Ne.symm ho)
  have hf1 : fr (fo1 o1 o2) h h1 := by rw [← hh]; exact fr.rf.up hl (Or.inl rfl)
  have fin : ∀ (f1 : Nat → Option Nat), (∀ (j a : Nat), (L.eraseIdx i)[j]? = some a → f1 j = some a) → Go X G (hu h1 D o2 (oa G 4 cap f1)) 0 0 34 [some (.ref l), some (.ref D), some (.int (nI i)), some (.int (nI (L.length - 1)))] [] := by
    intro f1 hf
    refine go_aload_n hC dJ2_fastRemove_34 rfl ?_
    refine go_aload_n hC dJ2_fastRemove_35 rfl ?_
    refine go_iload_n hC dJ2_fastRemove_36 rfl ?_
    refine go_dup_x1 hC dJ2_fastRemove_37 rfl rfl ?_
    refine go_put hC kJ2 (hu_k hl1 g1' ho) 2 q141 dJ2_fastRemove_38 (by decide) (Nat.le_of_ble_eq_true rfl) (Or.inl rfl) rfl rfl rfl ?_
    refine go_null hC dJ2_fastRemove_41 ?_
    refine go_aastN hC (L.length-1) (hu_k hu_eq (hu_k hl1 g1' ho) (Ne.symm ho)) rfl dJ2_fastRemove_42 (by first | rfl | (simp only [nI_add, pk_mul, nI_1, Int32.add_zero]; done) | (simp only [nI_add, pk_mul, nI_1, Int32.add_zero]; exact congrArg nI (by omega))) (by omega) (by omega) ?_
    refine go_vret hC hF dJ2_fastRemove_43 rfl ?_
    refine ⟨rfl, ⟨_, D, by rw [hlen]; exact hu_k hu_eq (hu_k hu_eq (hu_k hl1 g1' ho) (Ne.symm ho)) ho, Or.inr ⟨cap, _, hu_eq, by omega, g3, g4, fun j a hj => ?_⟩⟩, ?_⟩
    · have hjl := (List.getElem?_eq_some_iff.mp hj).1
      rw [show va_up f1 (L.length - 1) none j = f1 j from if_neg (by omega)]
      exact hf j a hj
    · exact ((hf1.up g1' (Or.inr rfl)).up (hu_k hl1 g1' ho) (Or.inl rfl)).up (hu_k hu_eq (hu_k hl1 g1' ho) (Ne.symm ho)) (Or.inr rfl)
  have e0 : hu h1 D o2 (oa G 4 cap f) = h1 := hu_id g1'
  refine go_aload_n hC dJ2_fastRemove_0 rfl ?_
  refine go_dup hC dJ2_fastRemove_1 rfl ?_
  refine go_get hC kJ2 hl 0 q143 dJ2_fastRemove_2 rfl (by decide) (Or.inr q144) ?_
  refine go_iconst hC (1) dJ2_fastRemove_5 (by decide) ?_
  refine go_iadd hC dJ2_fastRemove_6 ?_
  refine go_put hC kJ2 hl 0 q143 dJ2_fastRemove_7 (by decide) (Nat.le_of_ble_eq_true rfl) (Or.inr q144) rfl rfl rfl ?_
  rw [hh]
  refine go_aload_n hC dJ2_fastRemove_10 rfl ?_
  refine go_get hC kJ2 hl1 2 q141 dJ2_fastRemove_11 rfl (by decide) (Or.inl rfl) ?_
  refine go_iconst hC (1) dJ2_fastRemove_14 (by decide) ?_
  refine go_isub hC dJ2_fastRemove_15 ?_
  rw [e1]
  refine go_dup hC dJ2_fastRemove_16 rfl ?_
  refine go_istore_n hC dJ2_fastRemove_17 (by decide) ?_
  refine go_iload_n hC dJ2_fastRemove_18 rfl ?_
  refine go_N_le hC 34 dJ2_fastRemove_19 (by decide) rfl rfl (by omega) (by omega) (fun c19 => ?_) (fun c19 => ?_)
  · rw [← e0]
    refine fin f (fun j a hj => ?_)
    have hjl := (List.getElem?_eq_some_iff.mp hj).1
    rw [List.getElem?_eraseIdx, if_pos (by omega)] at hj
    exact g5 j a hj
  · refine go_aload_n hC dJ2_fastRemove_22 rfl ?_
    refine go_iload_n hC dJ2_fastRemove_23 rfl ?_
    refine go_iconst hC (1) dJ2_fastRemove_24 (by decide) ?_
    refine go_iadd hC dJ2_fastRemove_25 ?_
    refine go_aload_n hC dJ2_fastRemove_26 rfl ?_
    refine go_iload_n hC dJ2_fastRemove_27 rfl ?_
    refine go_iload_n hC dJ2_fastRemove_28 rfl ?_
    refine go_iload_n hC dJ2_fastRemove_29 rfl ?_
    refine go_isub hC dJ2_fastRemove_30 ?_
    rw [pk_sub (show i ≤ L.length - 1 by omega)]
    refine go_copyq (C := "") hC (i+1) i (L.length-1-i) q1452 q357 q356 q94 rfl g1' g1' (nI_1 i) rfl rfl (by omega) (by omega) (by omega) (by omega) hcl (fun j hj y hy => by rw [g5 (i+1+j) _ (List.getElem?_eq_getElem (by omega))] at hy; cases hy; obtain ⟨o3, vs, hv⟩ := hel _ (List.getElem_mem (show i + 1 + j < L.length by omega)); exact ⟨o3, vs, by rw [← hh, hu_ne (ob_ne hv hl h7)]; exact hv⟩) hca ⟨Nat.le_of_ble_eq_true rfl, Nat.le_of_ble_eq_true rfl⟩ (Nat.le_of_ble_eq_true rfl) dJ2_fastRemove_31 ?_
    refine fin _ (fun j a hj => ?_)
    have hjl := (List.getElem?_eq_some_iff.mp hj).1
    rw [List.getElem?_eraseIdx] at hj
    by_cases q : j < i
    · rw [if_pos q] at hj
      rw [pk_cpy_out (Or.inl q)]
      exact g5 j a hj
    · rw [if_neg q] at hj
      rw [pk_cpy_in (by omega) (by omega), show i + 1 + (j - i) = j + 1 by omega]
      exact g5 _ a hj
theorem c_J2_remove_2 {ci : Nat} {q0 : vw_C} {a : Nat} (hA : AL G h o1 o2 l L) (ho : o1 ≠ o2) (hi : L[i]? = some a) (hcl : gcl[ci]? = some q0) (h7 : ci ≠ 7) (hca : Jvm.Cond.castable q0.1 "java/lang/Object" ∈ lw_tbl) (hel : ∀ a ∈ L, ∃ (o2 : Ow) (vs : List Value), h a = some (o2, ob ci vs)) : CT G yJ2_remove_2 cJ2_remove_2 4 (some (.object "java/lang/Object")) (rmL 3 0 0) [.ref l, .int (nI i)] h (fun v h' => v = some (.ref a) ∧ AL G h' o1 o2 l (L.eraseIdx i) ∧ fr (fo1 o1 o2) h h') noX := by
  have hn := hA.len
  have hil : i < L.length := (List.getElem?_eq_some_iff.mp hi).1
  obtain ⟨mc, D, hl, hD⟩ := hA
  refine CT_of [some (.ref l), some (.int (nI i)), none, none] (by decide +kernel) rfl (Nat.le_of_ble_eq_true rfl) (fun X hC hF hE => ?_)
  rcases hD with ⟨-, e⟩ | ⟨cap, f, g1, g2, g3, g4, g5⟩
  · rw [e] at hil; exact absurd hil (Nat.not_lt_zero _)
  refine go_iload_n hC dJ2_remove_2_0 rfl ?_
  refine go_aload_n hC dJ2_remove_2_1 rfl ?_
  refine go_get hC kJ2 hl 2 q141 dJ2_remove_2_2 rfl (by decide) (Or.inl rfl) ?_
  refine go_callS0 hC (c_J17_checkIndex hil (by omega)) (lw_S q1179 q1180 q92 q1181) dJ2_remove_2_5 2 rfl (by decide +kernel) rfl ⟨Nat.le_of_ble_eq_true rfl, Nat.le_of_ble_eq_true rfl⟩ (Nat.le_of_ble_eq_true rfl) ⟨rfl, rfl⟩ ?_
  rintro _ _ ⟨rfl, rfl⟩
  refine go_pop hC dJ2_remove_2_8 rfl ?_
  refine go_aload_n hC dJ2_remove_2_9 rfl ?_
  refine go_get hC kJ2 hl 1 q140 dJ2_remove_2_10 rfl (by decide) (Or.inl rfl) ?_
  refine go_astore_n hC dJ2_remove_2_13 (by decide) ?_
  refine go_aload_n hC dJ2_remove_2_14 rfl ?_
  refine go_iload_n hC dJ2_remove_2_15 rfl ?_
  refine go_aald hC i g1 rfl dJ2_remove_2_16 (by first | rfl | (simp only [nI_add, pk_mul, nI_1, Int32.add_zero]; done) | (simp only [nI_add, pk_mul, nI_1, Int32.add_zero]; exact congrArg nI (by omega))) (by omega) (by omega) (g5 i a hi) ?_
  refine go_astore_n hC dJ2_remove_2_17 (by decide) ?_
  refine go_aload_n hC dJ2_remove_2_18 rfl ?_
  refine go_aload_n hC dJ2_remove_2_19 rfl ?_
  refine go_iload_n hC dJ2_remove_2_20 rfl ?_
  refine go_callV0 hC (c_J2_fastRemove hl g1 g2 g3 g4 g5 ho hil hcl h7 hca hel) (lw_V q1448 q1450 qs24 q76 q1451) hl rfl dJ2_remove_2_21 2 rfl (by decide +kernel) rfl ⟨Nat.le_of_ble_eq_true rfl, Nat.le_of_ble_eq_true rfl⟩ (Nat.le_of_ble_eq_true rfl) ⟨rfl, rfl⟩ ?_
  rintro _ h2 ⟨rfl, hA2, hf2⟩
  refine go_aload_n hC dJ2_remove_2_24 rfl ?_
  refine go_aret hC hF dJ2_remove_2_25 rfl (Or.inl ⟨_, rfl⟩) (Or.inr ⟨_, rfl⟩) ?_
  exact ⟨rfl, hA2, hf2⟩
theorem c_J30_equals (a b : Nat) : CT G yJ30_equals cJ30_equals 2 (some .boolean) (rmL 1 0 0) [.ref a, .ref b] h (fun v h' => v = some (.int (bI (decide (a = b)))) ∧ h = h') noX := by
  refine CT_ofP [some (.ref a), some (.ref b)] (by decide +kernel) rfl (Nat.le_of_ble_eq_true rfl) (fun X hC hF hE => ?_)
  refine go_aload_n hC dJ30_equals_0 rfl ?_
  refine go_aload_n hC dJ30_equals_1 rfl ?_
  refine go_acmp_ne_rr hC 9 dJ30_equals_2 (by decide) (fun c2 => ?_) (fun c2 => ?_)
  · refine go_iconst hC (0) dJ30_equals_9 (by decide) ?_
    refine go_iret hC hF dJ30_equals_10 rfl rfl ?_
    exact ⟨by rw [decide_eq_false (fun z => c2 (congrArg some z))]; rfl, rfl⟩
  · refine go_iconst hC (1) dJ30_equals_5 (by decide) ?_
    refine go_goto hC 10 dJ30_equals_6 (by decide) ?_
    refine go_iret hC hF dJ30_equals_10 rfl rfl ?_
    exact ⟨by rw [decide_eq_true (Option.some.inj c2)]; rfl, rfl⟩
/-- remove(Object), of a list of items: the first that is this one -/
theorem c_J2_remove {vs : List Value} (hA : AL G h o1 o2 l L) (ho : o1 ≠ o2) (hi : L[i]? = some x) (hfst : ∀ (j a : Nat), j < i → L[j]? = some a → a ≠ x) (hel : ∀ a ∈ L, ∃ (o2 : Ow) (vs : List Value), h a = some (o2, ob 2 vs)) (hx : h x = some (ov, ob 2 vs)) : CT G yJ2_remove cJ2_remove 5 (some .boolean) (rmL 3 0 0) [.ref l, .ref x] h (fun v h' => v = some (.int 1) ∧ AL G h' o1 o2 l (L.eraseIdx i) ∧ fr (fo1 o1 o2) h h') noX := by
  have hn := hA.len
  have hil : i < L.length := (List.getElem?_eq_some_iff.mp hi).1
  obtain ⟨mc, D, hl, hD⟩ := hA
  refine CT_of [some (.ref l), some (.ref x), none, none, none] (by decide +kernel) rfl (Nat.le_of_ble_eq_true rfl) (fun X hC hF hE => ?_)
  rcases hD with ⟨-, e⟩ | ⟨cap, f, g1, g2, g3, g4, g5⟩
  · rw [e] at hil; exact absurd hil (Nat.not_lt_zero _)
  have loop : ∀ (j : Nat), j ≤ i → Go X G h 0 0 39 [some (.ref l), some (.ref x), some (.ref D), some (.int (nI L.length)), some (.int (nI j))] [] := by
    refine lpA (fun j => i - j) (fun j ih hj => ?_)
    have hjl : j < L.length := by omega
    obtain ⟨b, hb, -⟩ := get_of hjl
    refine go_iload hC dJ2_remove_39 rfl ?_
    refine go_iload_n hC dJ2_remove_41 rfl ?_
    refine go_N_ge hC 65 dJ2_remove_42 (by decide) rfl rfl (by omega) (by omega) (fun z => absurd z (Nat.not_le.mpr hjl)) (fun c42 => ?_)
    refine go_aload_n hC dJ2_remove_45 rfl ?_
    refine go_aload_n hC dJ2_remove_46 rfl ?_
    refine go_iload hC dJ2_remove_47 rfl ?_
    refine go_aald hC j g1 rfl dJ2_remove_49 (by first | rfl | (simp only [nI_add, pk_mul, nI_1, Int32.add_zero]; done) | (simp only [nI_add, pk_mul, nI_1, Int32.add_zero]; exact congrArg nI (by omega))) (by omega) (by omega) (g5 j b hb) ?_
    refine go_callO0 hC (c_J30_equals x b) (lw_U q1447 q838 q841 q837 q2076 q864) q835 hx rfl rfl dJ2_remove_50 1 rfl (by decide +kernel) rfl ⟨Nat.le_of_ble_eq_true rfl, Nat.le_of_ble_eq_true rfl⟩ (Nat.le_of_ble_eq_true rfl) ⟨rfl, rfl⟩ ?_
    rintro _ _ ⟨rfl, rfl⟩
    refine go_B_eq hC 59 dJ2_remove_53 (by decide) rfl (fun c53 => ?_) (fun c53 => ?_)
    · have hxb : ¬ x = b := of_decide_eq_false c53
      refine go_iinc hC (v := nI (j + 1)) dJ2_remove_59 rfl (nI_1 _) (by decide) ?_
      refine go_goto hC 39 dJ2_remove_62 (by decide) ?_
      rcases Nat.lt_or_ge j i with q | q
      · exact ih (j + 1) (by omega) (by omega)
      · have : j = i := by omega
        subst this
        rw [hi] at hb
        cases hb
        exact absurd rfl hxb
    · have hxb : x = b := of_decide_eq_true c53
      have hji : j = i := by
        rcases Nat.lt_or_ge j i with q | q
        · exact absurd hxb.symm (hfst j b q hb)
        · omega
      subst hji
      refine go_goto hC 67 dJ2_remove_56 (by decide) ?_
      refine go_aload_n hC dJ2_remove_67 rfl ?_
      refine go_aload_n hC dJ2_remove_68 rfl ?_
      refine go_iload hC dJ2_remove_69 rfl ?_
      refine go_callV0 hC (c_J2_fastRemove hl g1 g2 g3 g4 g5 ho hil rfl (by decide) q2080 hel) (lw_V q1448 q1450 qs24 q76 q1451) hl rfl dJ2_remove_71 2 rfl (by decide +kernel) rfl ⟨Nat.le_of_ble_eq_true rfl, Nat.le_of_ble_eq_true rfl⟩ (Nat.le_of_ble_eq_true rfl) ⟨rfl, rfl⟩ ?_
      rintro _ h2 ⟨rfl, hA2, hf2⟩
      refine go_iconst hC (1) dJ2_remove_74 (by decide) ?_
      refine go_iret hC hF dJ2_remove_75 rfl rfl ?_
      exact ⟨rfl, hA2, hf2⟩
  refine go_aload_n hC dJ2_remove_0 rfl ?_
  refine go_get hC kJ2 hl 1 q140 dJ2_remove_1 rfl (by decide) (Or.inl rfl) ?_
  refine go_astore_n hC dJ2_remove_4 (by decide) ?_
  refine go_aload_n hC dJ2_remove_5 rfl ?_
  refine go_get hC kJ2 hl 2 q141 dJ2_remove_6 rfl (by decide) (Or.inl rfl) ?_
  refine go_istore_n hC dJ2_remove_9 (by decide) ?_
  refine go_iconst hC (0) dJ2_remove_10 (by decide) ?_
  refine go_istore hC dJ2_remove_11 (by decide) ?_
  refine go_aload_n hC dJ2_remove_13 rfl ?_
  refine go_ifnonnull hC 39 dJ2_remove_14 (by decide) ?_
  exact loop 0 (Nat.zero_le _)
end AL
