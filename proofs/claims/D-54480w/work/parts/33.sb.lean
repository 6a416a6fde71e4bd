/-! java.lang.StringBuilder: a text of at most 60 signs -/
set_option maxRecDepth 100000
theorem b8_ok : ∀ c, c ≤ 126 → (nI c).toInt8.toInt32 = nI c := by
  have h : ∀ c, c < 127 → (nI c).toInt8.toInt32 = nI c := by decide +kernel
  exact fun c hc => h c (by omega)
theorem c16_ok : ∀ c, c ≤ 126 → ((nI c &&& nI 255).toUInt32 % 65536).toInt32 = nI c := by
  have h : ∀ c, c < 127 → ((nI c &&& nI 255).toUInt32 % 65536).toInt32 = nI c := by decide +kernel
  exact fun c hc => h c (by omega)
/-- a builder at b that holds these signs -/
def SBr (G : GT) (h : PH) (o1 o2 : Ow) (b : Nat) (tx : List Nat) : Prop := ∃ (V : Nat) (ml : Int32) (g : Nat → Int32), h b = some (o1, ob 10 [.ref V, .int 0, .int ml, .int (nI tx.length)]) ∧ h V = some (o2, ba G 60 g) ∧ TX tx ∧ ∀ (j x : Nat), tx[j]? = some x → g j = nI x
theorem SBr.fr {P : Ow → Prop} {G : GT} {h h' : PH} {o1 o2 : Ow} {b : Nat} {tx : List Nat} (hS : SBr G h o1 o2 b tx) (z : fr P h h') (n1 : ¬ P o1) (n2 : ¬ P o2) : SBr G h' o1 o2 b tx := by
  obtain ⟨V, ml, g, h1, h2, h3⟩ := hS
  exact ⟨V, ml, g, z _ _ _ h1 n1, z _ _ _ h2 n2, h3⟩
theorem oa_ne2 {h : PH} {a b ci : Nat} {o o2 : Ow} {fs : List Value} {c : ClassId × vp_A} (ha : h a = some (o, ob ci fs)) (hb : h b = some (o2, .inl c)) : a ≠ b := by
  intro e
  rw [e, hb] at ha
  cases ha
section SB
variable {G : GT} {h : PH} {b V i n : Nat} {o1 o2 : Ow} {tx : List Nat}
theorem c_J5_init (hb : h b = some (o1, ob 10 nfJ6)) : CT G yJ5_init cJ5_init 2 none (rmL 2 1 60) [.ref b, .int (nI 60)] h (fun v h' => v = none ∧ (∃ V, h V = none ∧ hu (hu h V o2 (ba G 60 (fun _ => 0))) b o1 (ob 10 [.ref V, .int 0, .int 0, .int 0]) = h')) noX := by
  refine CT_of [some (.ref b), some (.int (nI 60))] (by decide +kernel) rfl (Nat.le_of_ble_eq_true rfl) (fun X hC hF hE => ?_)
  show Go X G h 1 60 0 _ _
  refine go_aload_n hC dJ5_init_0 rfl ?_
  refine go_objI hC q242 q118 q119 (Nat.le_of_ble_eq_true rfl) ⟨Nat.le_of_ble_eq_true rfl, Nat.le_of_ble_eq_true rfl⟩ dJ5_init_1 ?_
  refine go_gets hC hC.2.2.2.2.2.1.2.2.2.2.2.2.2.2.2.2.1 q243 rfl dJ5_init_4 ?_
  refine go_if_eq hC 25 dJ5_init_7 (by decide) (fun z => absurd z (by decide)) (fun _ => ?_)
  refine go_aload_n hC dJ5_init_10 rfl ?_
  refine go_iload_n hC dJ5_init_11 rfl ?_
  refine go_newa hC (atype := .byte) 2 60 (fun _ => o2) (a0 := (60, .inl (fun _ => 0))) q266 rfl rfl (fun _ => rfl) rfl (by omega) (by decide) (by omega) (by omega) dJ5_init_12 (fun V Vn Vb => ?_)
  refine go_put hC kJ6 (hu_n Vn hb) 0 q252 dJ5_init_14 (by decide) (Nat.le_of_ble_eq_true rfl) (Or.inl rfl) rfl rfl rfl ?_
  refine go_aload_n hC dJ5_init_17 rfl ?_
  refine go_iconst hC (0) dJ5_init_18 (by decide) ?_
  refine go_put hC kJ6 hu_eq 1 q253 dJ5_init_19 (by decide) (Nat.le_of_ble_eq_true rfl) (Or.inl rfl) rfl rfl rfl ?_
  rw [hu_hu]
  refine go_goto hC 38 dJ5_init_22 (by decide) ?_
  refine go_vret hC hF dJ5_init_38 rfl ?_
  exact ⟨rfl, V, Vn, rfl⟩
theorem c_J6_init (hb : h b = some (o1, ob 10 nfJ6)) : CT G yJ6_init cJ6_init 2 none (rmL 3 1 60) [.ref b, .int (nI 60)] h (fun v h' => v = none ∧ SBr G h' o1 o2 b [] ∧ fr (fo1 o1 o2) h h') noX := by
  refine CT_of [some (.ref b), some (.int (nI 60))] (by decide +kernel) rfl (Nat.le_of_ble_eq_true rfl) (fun X hC hF hE => ?_)
  show Go X G h 1 60 0 _ _
  refine go_aload_n hC dJ6_init_0 rfl ?_
  refine go_iload_n hC dJ6_init_1 rfl ?_
  refine go_callI hC (c_J5_init (o2 := o2) hb) q241 q79 q239 q240 rfl dJ6_init_2 1 rfl (by decide +kernel) rfl ⟨Nat.le_of_ble_eq_true rfl, Nat.le_of_ble_eq_true rfl⟩ (Nat.le_of_ble_eq_true rfl) (Nat.le_refl _) (Nat.le_refl _) ?_
  rintro _ _ ⟨rfl, V, Vn, rfl⟩
  refine go_vret hC hF dJ6_init_5 rfl ?_
  have hb1 := hu_n (o2 := o2) (e' := ba G 60 (fun _ => 0)) Vn hb
  refine ⟨rfl, ⟨V, 0, fun _ => 0, hu_eq, ?_, TX_nil, fun j x hx => by simp at hx⟩, (fr.rf.nw Vn).up hb1 (Or.inl rfl)⟩
  rw [hu_ne (Ne.symm (oa_ne2 hb1 hu_eq))]
  exact hu_eq
theorem c_J5_length (hS : SBr G h o1 o2 b tx) : CT G yJ5_length cJ5_length 1 (some .int) (rmL 1 0 0) [.ref b] h (fun v h' => v = some (.int (nI tx.length)) ∧ h = h') noX := by
  obtain ⟨V, ml, g, hb, hV, ht, hg⟩ := hS
  refine CT_of [some (.ref b)] (by decide +kernel) rfl (Nat.le_of_ble_eq_true rfl) (fun X hC hF hE => ?_)
  refine go_aload_n hC dJ5_length_0 rfl ?_
  refine go_get hC kJ6 hb 3 q256 dJ5_length_1 rfl (by decide) (Or.inl rfl) ?_
  refine go_iret hC hF dJ5_length_4 rfl rfl ?_
  exact ⟨rfl, rfl⟩
theorem c_J6_length (hS : SBr G h o1 o2 b tx) : CT G yJ6_length cJ6_length 1 (some .int) (rmL 2 0 0) [.ref b] h (fun v h' => v = some (.int (nI tx.length)) ∧ h = h') noX := by
  obtain ⟨V, ml, g, hb, hV, ht, hg⟩ := id hS
  refine CT_of [some (.ref b)] (by decide +kernel) rfl (Nat.le_of_ble_eq_true rfl) (fun X hC hF hE => ?_)
  refine go_aload_n hC dJ6_length_0 rfl ?_
  refine go_callSU0 hC (c_J5_length hS) (lw_SU q292 q2061 q265 q293 q79 q294) hb rfl dJ6_length_1 0 rfl (by decide +kernel) rfl ⟨Nat.le_of_ble_eq_true rfl, Nat.le_of_ble_eq_true rfl⟩ (Nat.le_of_ble_eq_true rfl) ⟨rfl, rfl⟩ ?_
  rintro _ _ ⟨rfl, rfl⟩
  refine go_iret hC hF dJ6_length_4 rfl rfl ?_
  exact ⟨rfl, rfl⟩
theorem c_J5_ensure (hS : SBr G h o1 o2 b tx) (hn : n ≤ 60) : CT G yJ5_ensureCapacityInternal cJ5_ensureCapacityInternal 3 none (rmL 1 0 0) [.ref b, .int (nI n)] h (fun v h' => v = none ∧ h = h') noX := by
  obtain ⟨V, ml, g, hb, hV, ht, hg⟩ := hS
  refine CT_of [some (.ref b), some (.int (nI n)), none] (by decide +kernel) rfl (Nat.le_of_ble_eq_true rfl) (fun X hC hF hE => ?_)
  have e : nI n - (nI 60 >>> ((0 : Int32) &&& 31)) ≤ 0 := by
    have h : ∀ n, n < 61 → nI n - (nI 60 >>> ((0 : Int32) &&& 31)) ≤ 0 := by decide +kernel
    exact h n (by omega)
  refine go_aload_n hC dJ5_ensureCapacityInternal_0 rfl ?_
  refine go_get hC kJ6 hb 0 q252 dJ5_ensureCapacityInternal_1 rfl (by decide) (Or.inl rfl) ?_
  refine go_alen hC hV rfl dJ5_ensureCapacityInternal_4 ?_
  refine go_aload_n hC dJ5_ensureCapacityInternal_5 rfl ?_
  refine go_get hC kJ6 hb 1 q253 dJ5_ensureCapacityInternal_6 rfl (by decide) (Or.inl rfl) ?_
  refine go_ishr hC dJ5_ensureCapacityInternal_9 ?_
  refine go_istore_n hC dJ5_ensureCapacityInternal_10 (by decide) ?_
  refine go_iload_n hC dJ5_ensureCapacityInternal_11 rfl ?_
  refine go_iload_n hC dJ5_ensureCapacityInternal_12 rfl ?_
  refine go_isub hC dJ5_ensureCapacityInternal_13 ?_
  refine go_if_le hC 38 dJ5_ensureCapacityInternal_14 (by decide) (fun _ => ?_) (fun z => absurd e z)
  refine go_vret hC hF dJ5_ensureCapacityInternal_38 rfl ?_
  exact ⟨rfl, rfl⟩
theorem c_J5_isLatin1 (hS : SBr G h o1 o2 b tx) : CT G yJ5_isLatin1 cJ5_isLatin1 1 (some .boolean) (rmL 1 0 0) [.ref b] h (fun v h' => v = some (.int 1) ∧ h = h') noX := by
  obtain ⟨V, ml, g, hb, hV, ht, hg⟩ := hS
  refine CT_of [some (.ref b)] (by decide +kernel) rfl (Nat.le_of_ble_eq_true rfl) (fun X hC hF hE => ?_)
  refine go_gets hC hC.2.2.2.2.2.1.2.2.2.2.2.2.2.2.2.2.1 q243 rfl dJ5_isLatin1_0 ?_
  refine go_if_eq hC 17 dJ5_isLatin1_3 (by decide) (fun z => absurd z (by decide)) (fun _ => ?_)
  refine go_aload_n hC dJ5_isLatin1_6 rfl ?_
  refine go_get hC kJ6 hb 1 q253 dJ5_isLatin1_7 rfl (by decide) (Or.inl rfl) ?_
  refine go_if_ne hC 17 dJ5_isLatin1_10 (by decide) (fun z => absurd rfl z) (fun _ => ?_)
  refine go_iconst hC (1) dJ5_isLatin1_13 (by decide) ?_
  refine go_goto hC 18 dJ5_isLatin1_14 (by decide) ?_
  refine go_iret hC hF dJ5_isLatin1_18 rfl rfl ?_
  exact ⟨rfl, rfl⟩
theorem c_J21_canEncode (hn : n ≤ 126) : CT G yJ21_canEncode cJ21_canEncode 1 (some .boolean) (rmL 1 0 0) [.int (nI n)] h (fun v h' => v = some (.int 1) ∧ h = h') noX := by
  refine CT_of [some (.int (nI n))] (by decide +kernel) rfl (Nat.le_of_ble_eq_true rfl) (fun X hC hF hE => ?_)
  refine go_iload_n hC dJ21_canEncode_0 rfl ?_
  refine go_sipush hC (nI 255) dJ21_canEncode_1 (by decide) ?_
  refine go_N_gt hC 11 dJ21_canEncode_4 (by decide) rfl rfl (by omega) (by omega) (fun z => absurd z (by omega)) (fun c4 => ?_)
  refine go_iconst hC (1) dJ21_canEncode_7 (by decide) ?_
  refine go_goto hC 12 dJ21_canEncode_8 (by decide) ?_
  refine go_iret hC hF dJ21_canEncode_12 rfl rfl ?_
  exact ⟨rfl, rfl⟩
theorem c_J5_append (hS : SBr G h o1 o2 b tx) (ho : o1 ≠ o2) (hl : tx.length < 60) (hn : 33 ≤ n ∧ n ≤ 126) : CT G yJ5_append_3 cJ5_append_3 2 (some (.object "java/lang/AbstractStringBuilder")) (rmL 2 0 0) [.ref b, .int (nI n)] h (fun v h' => v = some (.ref b) ∧ SBr G h' o1 o2 b (tx ++ [n]) ∧ fr (fo1 o1 o2) h h') noX := by
  obtain ⟨V, ml, g, hb, hV, ht, hg⟩ := id hS
  refine CT_of [some (.ref b), some (.int (nI n))] (by decide +kernel) rfl (Nat.le_of_ble_eq_true rfl) (fun X hC hF hE => ?_)
  have hV1 : hu h b o1 (ob 10 [.ref V, .int 0, .int ml, .int (nI (tx.length + 1))]) V = some (o2, ba G 60 g) := hu_k hV hb (Ne.symm ho)
  refine go_aload_n hC dJ5_append_3_0 rfl ?_
  refine go_aload_n hC dJ5_append_3_1 rfl ?_
  refine go_get hC kJ6 hb 3 q256 dJ5_append_3_2 rfl (by decide) (Or.inl rfl) ?_
  refine go_iconst hC (1) dJ5_append_3_5 (by decide) ?_
  refine go_iadd hC dJ5_append_3_6 ?_
  rw [nI_1]
  refine go_callP0 hC (c_J5_ensure hS (show tx.length + 1 ≤ 60 by omega)) q235 q323 q2065 q324 q325 q79 q326 hb rfl rfl dJ5_append_3_7 1 rfl (by decide +kernel) rfl ⟨Nat.le_of_ble_eq_true rfl, Nat.le_of_ble_eq_true rfl⟩ (Nat.le_of_ble_eq_true rfl) ⟨rfl, rfl⟩ ?_
  rintro _ _ ⟨rfl, rfl⟩
  refine go_aload_n hC dJ5_append_3_10 rfl ?_
  refine go_callU0 hC (c_J5_isLatin1 hS) (lw_U q358 q360 q361 q359 q79 q362) rfl hb rfl rfl dJ5_append_3_11 0 rfl (by decide +kernel) rfl ⟨Nat.le_of_ble_eq_true rfl, Nat.le_of_ble_eq_true rfl⟩ (Nat.le_of_ble_eq_true rfl) ⟨rfl, rfl⟩ ?_
  rintro _ _ ⟨rfl, rfl⟩
  refine go_if_eq hC 45 dJ5_append_3_14 (by decide) (fun z => absurd z (by decide)) (fun _ => ?_)
  refine go_iload_n hC dJ5_append_3_17 rfl ?_
  refine go_callS0 hC (c_J21_canEncode hn.2) (lw_S q1662 q1663 q98 q1664) dJ5_append_3_18 1 rfl (by decide +kernel) rfl ⟨Nat.le_of_ble_eq_true rfl, Nat.le_of_ble_eq_true rfl⟩ (Nat.le_of_ble_eq_true rfl) ⟨rfl, rfl⟩ ?_
  rintro _ _ ⟨rfl, rfl⟩
  refine go_if_eq hC 45 dJ5_append_3_21 (by decide) (fun z => absurd z (by decide)) (fun _ => ?_)
  refine go_aload_n hC dJ5_append_3_24 rfl ?_
  refine go_get hC kJ6 hb 0 q252 dJ5_append_3_25 rfl (by decide) (Or.inl rfl) ?_
  refine go_aload_n hC dJ5_append_3_28 rfl ?_
  refine go_dup hC dJ5_append_3_29 rfl ?_
  refine go_get hC kJ6 hb 3 q256 dJ5_append_3_30 rfl (by decide) (Or.inl rfl) ?_
  refine go_dup_x1 hC dJ5_append_3_33 rfl rfl ?_
  refine go_iconst hC (1) dJ5_append_3_34 (by decide) ?_
  refine go_iadd hC dJ5_append_3_35 ?_
  rw [nI_1]
  refine go_put hC kJ6 hb 3 q256 dJ5_append_3_36 (by decide) (Nat.le_of_ble_eq_true rfl) (Or.inl rfl) rfl rfl rfl ?_
  refine go_iload_n hC dJ5_append_3_39 rfl ?_
  refine go_i2b hC dJ5_append_3_40 ?_
  refine go_bast hC tx.length hV1 dJ5_append_3_41 (by first | rfl | (simp only [nI_add, pk_mul, nI_1, Int32.add_zero]; done) | (simp only [nI_add, pk_mul, nI_1, Int32.add_zero]; exact congrArg nI (by omega))) (by omega) (by omega) ?_
  rw [pk_vb, b8_ok n hn.2]
  refine go_goto hC 75 dJ5_append_3_42 (by decide) ?_
  refine go_aload_n hC dJ5_append_3_75 rfl ?_
  refine go_aret hC hF dJ5_append_3_76 rfl (Or.inl ⟨_, rfl⟩) (Or.inr ⟨_, rfl⟩) ?_
  refine ⟨rfl, ⟨V, ml, upd g tx.length (nI n), by rw [List.length_append, List.length_singleton]; exact hu_k hu_eq hV1 ho, hu_eq, ⟨by rw [List.length_append, List.length_singleton]; omega, fun x hx => ?_⟩, fun j x hx => ?_⟩, (fr.rf.up hb (Or.inl rfl)).up hV1 (Or.inr rfl)⟩
  · rcases List.mem_append.mp hx with q | q
    · exact ht.2 x q
    · rw [List.mem_singleton.mp q]; exact hn
  · exact arL_app (s := g) hg n j x hx
theorem c_J6_append (hS : SBr G h o1 o2 b tx) (ho : o1 ≠ o2) (hl : tx.length < 60) (hn : 33 ≤ n ∧ n ≤ 126) : CT G yJ6_append_3 cJ6_append_3 2 (some (.object "java/lang/StringBuilder")) (rmL 3 0 0) [.ref b, .int (nI n)] h (fun v h' => v = some (.ref b) ∧ SBr G h' o1 o2 b (tx ++ [n]) ∧ fr (fo1 o1 o2) h h') noX := by
  obtain ⟨V, ml, g, hb, hV, ht, hg⟩ := id hS
  refine CT_of [some (.ref b), some (.int (nI n))] (by decide +kernel) rfl (Nat.le_of_ble_eq_true rfl) (fun X hC hF hE => ?_)
  refine go_aload_n hC dJ6_append_3_0 rfl ?_
  refine go_iload_n hC dJ6_append_3_1 rfl ?_
  refine go_callSU0 hC (c_J5_append hS ho hl hn) (lw_SU q1659 q2075 q265 q1660 q79 q1661) hb rfl dJ6_append_3_2 1 rfl (by decide +kernel) rfl ⟨Nat.le_of_ble_eq_true rfl, Nat.le_of_ble_eq_true rfl⟩ (Nat.le_of_ble_eq_true rfl) ⟨rfl, rfl⟩ ?_
  rintro _ h2 ⟨rfl, hS2, hf2⟩
  refine go_pop hC dJ6_append_3_5 rfl ?_
  refine go_aload_n hC dJ6_append_3_6 rfl ?_
  refine go_aret hC hF dJ6_append_3_7 rfl (Or.inl ⟨_, rfl⟩) (Or.inr ⟨_, rfl⟩) ?_
  exact ⟨rfl, hS2, hf2⟩
theorem c_J5_setLength (hS : SBr G h o1 o2 b tx) (ho : o1 ≠ o2) : CT G yJ5_setLength cJ5_setLength 2 none (rmL 2 0 0) [.ref b, .int 0] h (fun v h' => v = none ∧ SBr G h' o1 o2 b [] ∧ fr (fo1 o1 o2) h h') noX := by
  obtain ⟨V, ml, g, hb, hV, ht, hg⟩ := id hS
  have hl := ht.1
  refine CT_of [some (.ref b), some (.int 0)] (by decide +kernel) rfl (Nat.le_of_ble_eq_true rfl) (fun X hC hF hE => ?_)
  have fin : ∀ (h1 : PH) (ml' z : Int32), h1 b = some (o1, ob 10 [.ref V, .int 0, .int ml', .int z]) → h1 V = some (o2, ba G 60 g) → fr (fo1 o1 o2) h h1 → Go X G h1 0 0 76 [some (.ref b), some (.int 0)] [] := by
    intro h1 ml' z hb1 hV1 hf1
    refine go_aload_n hC dJ5_setLength_76 rfl ?_
    refine go_iload_n hC dJ5_setLength_77 rfl ?_
    refine go_put hC kJ6 hb1 3 q256 dJ5_setLength_78 (by decide) (Nat.le_of_ble_eq_true rfl) (Or.inl rfl) rfl rfl rfl ?_
    refine go_vret hC hF dJ5_setLength_81 rfl ?_
    exact ⟨rfl, ⟨V, ml', g, hu_eq, hu_k hV1 hb1 (Ne.symm ho), TX_nil, fun j x hx => by simp at hx⟩, hf1.up hb1 (Or.inl rfl)⟩
  refine go_iload_n hC dJ5_setLength_0 rfl ?_
  refine go_if_ge hC 13 dJ5_setLength_1 (by decide) (fun _ => ?_) (fun z => absurd (by decide) z)
  refine go_aload_n hC dJ5_setLength_13 rfl ?_
  refine go_iload_n hC dJ5_setLength_14 rfl ?_
  refine go_callP0 hC (c_J5_ensure (n := 0) hS (by omega)) q235 q323 q2065 q324 q325 q79 q326 hb rfl rfl dJ5_setLength_15 1 rfl (by decide +kernel) rfl ⟨Nat.le_of_ble_eq_true rfl, Nat.le_of_ble_eq_true rfl⟩ (Nat.le_of_ble_eq_true rfl) ⟨rfl, rfl⟩ ?_
  rintro _ _ ⟨rfl, rfl⟩
  refine go_aload_n hC dJ5_setLength_18 rfl ?_
  refine go_get hC kJ6 hb 3 q256 dJ5_setLength_19 rfl (by decide) (Or.inl rfl) ?_
  refine go_iload_n hC dJ5_setLength_22 rfl ?_
  refine go_N_ge hC (b := 0) 63 dJ5_setLength_23 (by decide) rfl rfl (by omega) (by omega) (fun c23 => ?_) (fun z => absurd z (Nat.not_lt_zero _))
  refine go_aload_n hC dJ5_setLength_63 rfl ?_
  refine go_get hC kJ6 hb 3 q256 dJ5_setLength_64 rfl (by decide) (Or.inl rfl) ?_
  refine go_iload_n hC dJ5_setLength_67 rfl ?_
  refine go_N_le hC (b := 0) 76 dJ5_setLength_68 (by decide) rfl rfl (by omega) (by omega) (fun c68 => ?_) (fun c68 => ?_)
  · exact fin h ml _ hb hV fr.rf
  · refine go_aload_n hC dJ5_setLength_71 rfl ?_
    refine go_iconst hC (1) dJ5_setLength_72 (by decide) ?_
    refine go_put hC kJ6 hb 2 q254 dJ5_setLength_73 (by decide) (Nat.le_of_ble_eq_true rfl) (Or.inl rfl) rfl rfl rfl ?_
    exact fin _ 1 _ hu_eq (hu_k hV hb (Ne.symm ho)) (fr.rf.up hb (Or.inl rfl))
theorem c_J6_setLength (hS : SBr G h o1 o2 b tx) (ho : o1 ≠ o2) : CT G yJ6_setLength cJ6_setLength 2 none (rmL 3 0 0) [.ref b, .int 0] h (fun v h' => v = none ∧ SBr G h' o1 o2 b [] ∧ fr (fo1 o1 o2) h h') noX := by
  obtain ⟨V, ml, g, hb, hV, ht, hg⟩ := id hS
  refine CT_of [some (.ref b), some (.int 0)] (by decide +kernel) rfl (Nat.le_of_ble_eq_true rfl) (fun X hC hF hE => ?_)
  refine go_aload_n hC dJ6_setLength_0 rfl ?_
  refine go_iload_n hC dJ6_setLength_1 rfl ?_
  refine go_callSU0 hC (c_J5_setLength hS ho) (lw_SU q299 q2062 q265 q300 q79 q301) hb rfl dJ6_setLength_2 1 rfl (by decide +kernel) rfl ⟨Nat.le_of_ble_eq_true rfl, Nat.le_of_ble_eq_true rfl⟩ (Nat.le_of_ble_eq_true rfl) ⟨rfl, rfl⟩ ?_
  rintro _ h2 ⟨rfl, hS2, hf2⟩
  refine go_vret hC hF dJ6_setLength_5 rfl ?_
  exact ⟨rfl, hS2, hf2⟩
theorem c_J18_ckR (hi : i < n) (hn : n < 2 ^ 31) (a : Nat) : CT G yJ18_checkIndex cJ18_checkIndex 3 (some .int) (rmL 1 0 0) [.int (nI i), .int (nI n), .ref a] h (fun v h' => v = some (.int (nI i)) ∧ h = h') noX := by
  refine CT_of [some (.int (nI i)), some (.int (nI n)), some (.ref a)] (by decide +kernel) rfl (Nat.le_of_ble_eq_true rfl) (fun X hC hF hE => ?_)
  refine go_iload_n hC dJ18_checkIndex_0 rfl ?_
  refine go_if_lt hC 9 dJ18_checkIndex_1 (by decide) (fun z => absurd z (nI_pos (by omega))) (fun _ => ?_)
  refine go_iload_n hC dJ18_checkIndex_4 rfl ?_
  refine go_iload_n hC dJ18_checkIndex_5 rfl ?_
  refine go_N_lt hC 16 dJ18_checkIndex_6 (by decide) rfl rfl (by omega) (by omega) (fun c6 => ?_) (fun z => absurd z (Nat.not_le.mpr hi))
  refine go_iload_n hC dJ18_checkIndex_16 rfl ?_
  refine go_iret hC hF dJ18_checkIndex_17 rfl rfl ?_
  exact ⟨rfl, rfl⟩
theorem c_J7_checkIndex (hi : i < n) (hn : n < 2 ^ 31) : CT G yJ7_checkIndex cJ7_checkIndex 2 none (rmL 2 0 0) [.int (nI i), .int (nI n)] h (fun v h' => v = none ∧ h = h') noX := by
  refine CT_of [some (.int (nI i)), some (.int (nI n))] (by decide +kernel) rfl (Nat.le_of_ble_eq_true rfl) (fun X hC hF hE => ?_)
  have hk : ∀ (w : Value), w = fmvG G → Go X G h 0 0 5 [some (.int (nI i)), some (.int (nI n))] [w, .int (nI n), .int (nI i)] := by
    intro w hw
    unfold fmvG at hw
    split at hw
    · subst hw
      refine go_callS0 hC (c_J18_checkIndex hi hn .null) (lw_S q703 q704 q93 q705) dJ7_checkIndex_5 3 rfl (by decide +kernel) rfl ⟨Nat.le_of_ble_eq_true rfl, Nat.le_of_ble_eq_true rfl⟩ (Nat.le_of_ble_eq_true rfl) ⟨rfl, rfl⟩ ?_
      rintro _ _ ⟨rfl, rfl⟩
      refine go_pop hC dJ7_checkIndex_8 rfl ?_
      refine go_vret hC hF dJ7_checkIndex_9 rfl ?_
      exact ⟨rfl, rfl⟩
    · subst hw
      refine go_callS0 hC (c_J18_ckR hi hn _) (lw_S q703 q704 q93 q705) dJ7_checkIndex_5 3 rfl (by decide +kernel) rfl ⟨Nat.le_of_ble_eq_true rfl, Nat.le_of_ble_eq_true rfl⟩ (Nat.le_of_ble_eq_true rfl) ⟨rfl, rfl⟩ ?_
      rintro _ _ ⟨rfl, rfl⟩
      refine go_pop hC dJ7_checkIndex_8 rfl ?_
      refine go_vret hC hF dJ7_checkIndex_9 rfl ?_
      exact ⟨rfl, rfl⟩
  refine go_iload_n hC dJ7_checkIndex_0 rfl ?_
  refine go_iload_n hC dJ7_checkIndex_1 rfl ?_
  refine go_gets hC hC.2.2.2.2.2.1.2.2.2.2.2.2.2.2.2.2.2.2.2 q375 rfl dJ7_checkIndex_2 ?_
  exact hk _ rfl
theorem c_J5_charAt (hS : SBr G h o1 o2 b tx) (hi : i < tx.length) : CT G yJ5_charAt cJ5_charAt 5 (some .char) (rmL 3 0 0) [.ref b, .int (nI i)] h (fun v h' => v = some (.int (nI (ch tx i))) ∧ h = h') noX := by
  obtain ⟨V, ml, g, hb, hV, ht, hg⟩ := hS
  have hl := ht.1
  have hch := ch_lt ht i
  have e1 : (if nI 60 >>> ((0 : Int32) &&& 31) < nI tx.length then nI 60 >>> ((0 : Int32) &&& 31) else nI tx.length) = nI tx.length := by
    rw [show nI 60 >>> ((0 : Int32) &&& 31) = nI 60 by decide]
    exact if_neg (nI_nlt hl (by omega))
  have eg : g i = nI (ch tx i) := by
    obtain ⟨x, hx, -⟩ := get_of hi
    rw [hg i x hx]
    exact congrArg nI (getD_of hx).symm
  refine CT_of [some (.ref b), some (.int (nI i)), none, none, none] (by decide +kernel) rfl (Nat.le_of_ble_eq_true rfl) (fun X hC hF hE => ?_)
  refine go_aload_n hC dJ5_charAt_0 rfl ?_
  refine go_get hC kJ6 hb 1 q253 dJ5_charAt_1 rfl (by decide) (Or.inl rfl) ?_
  refine go_istore_n hC dJ5_charAt_4 (by decide) ?_
  refine go_aload_n hC dJ5_charAt_5 rfl ?_
  refine go_get hC kJ6 hb 0 q252 dJ5_charAt_6 rfl (by decide) (Or.inl rfl) ?_
  refine go_astore_n hC dJ5_charAt_9 (by decide) ?_
  refine go_aload_n hC dJ5_charAt_10 rfl ?_
  refine go_get hC kJ6 hb 3 q256 dJ5_charAt_11 rfl (by decide) (Or.inl rfl) ?_
  refine go_aload_n hC dJ5_charAt_14 rfl ?_
  refine go_alen hC hV rfl dJ5_charAt_15 ?_
  refine go_iload_n hC dJ5_charAt_16 rfl ?_
  refine go_ishr hC dJ5_charAt_17 ?_
  refine go_min hC q699 q353 q90 q354 ⟨Nat.le_of_ble_eq_true rfl, Nat.le_of_ble_eq_true rfl⟩ (Nat.le_of_ble_eq_true rfl) dJ5_charAt_18 ?_
  rw [e1]
  refine go_istore hC dJ5_charAt_21 (by decide) ?_
  refine go_iload_n hC dJ5_charAt_23 rfl ?_
  refine go_iload hC dJ5_charAt_24 rfl ?_
  refine go_callS0 hC (c_J7_checkIndex hi (by omega)) (lw_S q700 q701 q81 q702) dJ5_charAt_26 2 rfl (by decide +kernel) rfl ⟨Nat.le_of_ble_eq_true rfl, Nat.le_of_ble_eq_true rfl⟩ (Nat.le_of_ble_eq_true rfl) ⟨rfl, rfl⟩ ?_
  rintro _ _ ⟨rfl, rfl⟩
  refine go_iload_n hC dJ5_charAt_29 rfl ?_
  refine go_if_ne hC 42 dJ5_charAt_30 (by decide) (fun z => absurd rfl z) (fun _ => ?_)
  refine go_aload_n hC dJ5_charAt_33 rfl ?_
  refine go_iload_n hC dJ5_charAt_34 rfl ?_
  refine go_bald hC i hV dJ5_charAt_35 (by first | rfl | (simp only [nI_add, pk_mul, nI_1, Int32.add_zero]; done) | (simp only [nI_add, pk_mul, nI_1, Int32.add_zero]; exact congrArg nI (by omega))) (by omega) (by omega) ?_
  rw [eg]
  refine go_sipush hC (nI 255) dJ5_charAt_36 (by decide) ?_
  refine go_iand hC dJ5_charAt_39 ?_
  refine go_i2c hC dJ5_charAt_40 ?_
  rw [c16_ok _ hch]
  refine go_iret hC hF dJ5_charAt_41 rfl (pk_charN (by omega)).1 ?_
  exact ⟨rfl, rfl⟩
theorem c_J6_charAt (hS : SBr G h o1 o2 b tx) (hi : i < tx.length) : CT G yJ6_charAt cJ6_charAt 2 (some .char) (rmL 4 0 0) [.ref b, .int (nI i)] h (fun v h' => v = some (.int (nI (ch tx i))) ∧ h = h') noX := by
  obtain ⟨V, ml, g, hb, hV, ht, hg⟩ := id hS
  have hch := ch_lt ht i
  refine CT_of [some (.ref b), some (.int (nI i))] (by decide +kernel) rfl (Nat.le_of_ble_eq_true rfl) (fun X hC hF hE => ?_)
  refine go_aload_n hC dJ6_charAt_0 rfl ?_
  refine go_iload_n hC dJ6_charAt_1 rfl ?_
  refine go_callSU0 hC (c_J5_charAt hS hi) (lw_SU q696 q2073 q265 q697 q79 q698) hb rfl dJ6_charAt_2 1 rfl (by decide +kernel) rfl ⟨Nat.le_of_ble_eq_true rfl, Nat.le_of_ble_eq_true rfl⟩ (Nat.le_of_ble_eq_true rfl) ⟨rfl, rfl⟩ ?_
  rintro _ _ ⟨rfl, rfl⟩
  refine go_iret hC hF dJ6_charAt_5 rfl (pk_charN (by omega)).1 ?_
  exact ⟨rfl, rfl⟩
end SB
