/-! java.util.HashMap: resize -/
set_option maxRecDepth 100000
section RS2
variable {G : GT} {h : PH} {r d mp t a n sz : Nat} {o : Ow} {M : Nat → Option Nat} {k : Nat} {mc : Int32} {lf : UInt32}
/-- the first table -/
theorem c_J4_resize0 (hM : HM0 h r mp mc lf sz M) : CT G yJ4_resize cJ4_resize 14 (some (.array (.object "java/util/HashMap$Node"))) (rmL 1 1 64) [.ref mp] h (fun v h' => ∃ T, v = some (.ref T) ∧ HMi G h' r d mp 4 T (fun _ => none) (fun _ => []) mc lf sz M ∧ fr (Pm r) h h') noX := by
  obtain ⟨g1, g2, g3⟩ := hM
  refine CT_of [some (.ref mp), none, none, none, none, none, none, none, none, none, none, none, none, none] (by decide +kernel) rfl (Nat.le_of_ble_eq_true rfl) (fun X hC hF hE => ?_)
  show Go X G h 1 64 0 _ _
  refine go_aload_n hC dJ4_resize_0 rfl ?_
  refine go_get hC kJ4 g1 2 q162 dJ4_resize_1 rfl (by decide) (Or.inl rfl) ?_
  refine go_astore_nN hC dJ4_resize_4 (by decide) ?_
  refine go_aload_nN hC dJ4_resize_5 rfl ?_
  refine go_ifnonnullN hC dJ4_resize_6 ?_
  refine go_iconst hC (0) dJ4_resize_9 (by decide) ?_
  refine go_goto hC 15 dJ4_resize_10 (by decide) ?_
  refine go_istore_n hC dJ4_resize_15 (by decide) ?_
  refine go_aload_n hC dJ4_resize_16 rfl ?_
  refine go_get hC kJ4 g1 6 q165 dJ4_resize_17 rfl (by decide) (Or.inl rfl) ?_
  refine go_istore_n hC dJ4_resize_20 (by decide) ?_
  refine go_iconst hC (0) dJ4_resize_21 (by decide) ?_
  refine go_istore hC dJ4_resize_22 (by decide) ?_
  refine go_iload_n hC dJ4_resize_24 rfl ?_
  refine go_if_le hC 67 dJ4_resize_25 (by decide) (fun _ => ?_) (fun z => absurd (by decide) z)
  refine go_iload_n hC dJ4_resize_67 rfl ?_
  refine go_if_le hC 77 dJ4_resize_68 (by decide) (fun _ => ?_) (fun z => absurd (by decide) z)
  refine go_bipush hC (nI 16) dJ4_resize_77 (by decide) ?_
  refine go_istore hC dJ4_resize_79 (by decide) ?_
  refine go_bipush hC (nI 12) dJ4_resize_81 (by decide) ?_
  refine go_istore hC dJ4_resize_83 (by decide) ?_
  refine go_iload hC dJ4_resize_85 rfl ?_
  refine go_if_ne hC 125 dJ4_resize_87 (by decide) (fun _ => ?_) (fun z => absurd z (by decide))
  refine go_aload_n hC dJ4_resize_125 rfl ?_
  refine go_iload hC dJ4_resize_126 rfl ?_
  refine go_put hC kJ4 g1 6 q165 dJ4_resize_128 (by decide) (Nat.le_of_ble_eq_true rfl) (Or.inl rfl) rfl rfl rfl ?_
  refine go_iload hC dJ4_resize_131 rfl ?_
  refine go_newq hC 5 16 (fun _ => (r, 8)) q1291 hC.2.2.2.2.2.1.2.2.1.2.1 rfl rfl (by omega) (by omega) (by omega) dJ4_resize_133 (fun q qn qb => ?_)
  refine go_astore hC dJ4_resize_136 (by decide) ?_
  refine go_aload_n hC dJ4_resize_138 rfl ?_
  refine go_aload hC dJ4_resize_139 rfl ?_
  refine go_put hC kJ4 (hu_n qn hu_eq) 2 q162 dJ4_resize_141 (by decide) (Nat.le_of_ble_eq_true rfl) (Or.inl rfl) rfl rfl rfl ?_
  refine go_aload_nN hC dJ4_resize_144 rfl ?_
  refine go_ifnullN hC 353 dJ4_resize_145 (by decide) ?_
  refine go_aload hC dJ4_resize_353 rfl ?_
  refine go_aret hC hF dJ4_resize_355 rfl (Or.inr ⟨_, rfl⟩) (Or.inr ⟨_, rfl⟩) ?_
  subst g2
  have hq : hu h mp (r, 2) (ob 8 ([.null, .null, .null, .null, .int 0, .int mc, .int 0, .float lf].set 6 (.int (nI 12)))) q = none := qn
  have hqm : q ≠ mp := fun e => by rw [e, hu_eq] at hq; cases hq
  refine ⟨q, rfl, ⟨⟨Nat.le_refl _, by decide⟩, hu_eq, hu_k hu_eq (hu_n qn hu_eq) (ow_ne (by decide)), Nat.zero_le _, fun i hi => ⟨rfl, fun x hx => absurd hx List.not_mem_nil, List.nodup_nil⟩, fun n hn => by rw [g3 n hn]; rfl⟩, ((fr.rf.up g1 ⟨rfl, Or.inl rfl⟩).nw qn).up (hu_n qn hu_eq) ⟨rfl, Or.inl rfl⟩⟩
/-- the table doubles -/
theorem c_J4_resize {T : Nat} {f : Nat → Option Nat} {bk : Nat → List Nd} (hk : 4 ≤ k ∧ k ≤ 5) (g1 : h mp = some ((r, 2), ob 8 [.null, .null, .ref T, .null, .int (nI sz), .int mc, .int (nI (12 * 2 ^ (k - 4))), .float lf])) (g2 : h T = some ((r, 8), oa G 5 (2 ^ k) f)) (g3 : sz ≤ 12 * 2 ^ (k + 1 - 4)) (g4 : ∀ i, i < 2 ^ k → chn h r d (bk i) (f i) ∧ (∀ x ∈ bk i, hsh (nN x) % 2 ^ k = i) ∧ ((bk i).map nN).Nodup) (g5 : ∀ n, n < 64 → M n = ((bk (hsh n % 2 ^ k)).find? (fun x => nN x == n)).map nV) : CT G yJ4_resize cJ4_resize 14 (some (.array (.object "java/util/HashMap$Node"))) (rmL 1 1 64) [.ref mp] h (fun v h' => ∃ T2, v = some (.ref T2) ∧ HM G h' r d mp sz M ∧ fr (Pm r) h h') noX := by
  refine CT_of [some (.ref mp), none, none, none, none, none, none, none, none, none, none, none, none, none] (by decide +kernel) rfl (Nat.le_of_ble_eq_true rfl) (fun X hC hF hE => ?_)
  show Go X G h 1 64 0 _ _
  have hp : 2 ^ k ≤ 2 ^ 5 := Nat.pow_le_pow_right (by omega) hk.2
  have hp4 : 2 ^ 4 ≤ 2 ^ k := Nat.pow_le_pow_right (by omega) hk.1
  have hp1 : 2 ^ (k + 1) = 2 * 2 ^ k := by rw [Nat.pow_succ, Nat.mul_comm]
  have hpt : 2 ^ (k - 4) ≤ 2 ^ 1 := Nat.pow_le_pow_right (by omega) (by omega)
  have hpt0 : 0 < 2 ^ (k - 4) := Nat.two_pow_pos _
  have hpt2 : 2 ^ (k + 1 - 4) = 2 * 2 ^ (k - 4) := by rw [show k + 1 - 4 = (k - 4) + 1 by omega, Nat.pow_succ, Nat.mul_comm]
  have es1 : nI (2 ^ k) <<< ((1 : Int32) &&& 31) = nI (2 ^ (k + 1)) := by
    have e := pk_shlN (n := 2 ^ k) ((1 : Int32) &&& 31) 1 (by decide) (by omega)
    rw [e, hp1, Nat.pow_one, Nat.mul_comm]
  have es2 : nI (12 * 2 ^ (k - 4)) <<< ((1 : Int32) &&& 31) = nI (12 * 2 ^ (k + 1 - 4)) := by
    have e := pk_shlN (n := 12 * 2 ^ (k - 4)) ((1 : Int32) &&& 31) 1 (by decide) (by omega)
    rw [e, hpt2]
    exact congrArg nI (by omega)
  have hmod : ∀ m, hsh m % 2 ^ (k + 1) = hsh m % 2 ^ k + 2 ^ k * (hsh m / 2 ^ k % 2) := fun m => Nat.mod_pow_succ
  have hand : ∀ m, m < 64 → nI (hsh m) &&& (nI (2 ^ (k + 1)) - 1) = nI (hsh m % 2 ^ (k + 1)) := fun m hm => by
    rw [Int32.and_comm]; exact hsh_ix (by omega) hm
  refine go_aload_n hC dJ4_resize_0 rfl ?_
  refine go_get hC kJ4 g1 2 q162 dJ4_resize_1 rfl (by decide) (Or.inl rfl) ?_
  refine go_astore_n hC dJ4_resize_4 (by decide) ?_
  refine go_aload_n hC dJ4_resize_5 rfl ?_
  refine go_ifnonnull hC 13 dJ4_resize_6 (by decide) ?_
  refine go_aload_n hC dJ4_resize_13 rfl ?_
  refine go_alen hC g2 rfl dJ4_resize_14 ?_
  refine go_istore_n hC dJ4_resize_15 (by decide) ?_
  refine go_aload_n hC dJ4_resize_16 rfl ?_
  refine go_get hC kJ4 g1 6 q165 dJ4_resize_17 rfl (by decide) (Or.inl rfl) ?_
  refine go_istore_n hC dJ4_resize_20 (by decide) ?_
  refine go_iconst hC (0) dJ4_resize_21 (by decide) ?_
  refine go_istore hC dJ4_resize_22 (by decide) ?_
  refine go_iload_n hC dJ4_resize_24 rfl ?_
  refine go_if_le hC 67 dJ4_resize_25 (by decide) (fun z => absurd z (nI_nle (by omega) (by omega))) (fun _ => ?_)
  refine go_iload_n hC dJ4_resize_28 rfl ?_
  refine go_ldc hC dJ4_resize_29 q1288 ?_
  refine go_icmp_lt hC 42 dJ4_resize_31 (by decide) (fun _ => ?_) (fun z => absurd (show nI (2 ^ k) < 1073741824 from nI_lt (b := 1073741824) (by omega) (by decide)) z)
  refine go_iload_n hC dJ4_resize_42 rfl ?_
  refine go_iconst hC (1) dJ4_resize_43 (by decide) ?_
  refine go_ishl hC dJ4_resize_44 ?_
  rw [es1]
  refine go_dup hC dJ4_resize_45 rfl ?_
  refine go_istore hC dJ4_resize_46 (by decide) ?_
  refine go_ldc hC dJ4_resize_48 q1288 ?_
  refine go_icmp_ge hC 85 dJ4_resize_50 (by decide) (fun z => absurd z (show ¬ (1073741824 : Int32) ≤ nI (2 ^ (k + 1)) from nI_ge (b := 1073741824) (by omega) (by decide))) (fun _ => ?_)
  refine go_iload_n hC dJ4_resize_53 rfl ?_
  refine go_bipush hC (nI 16) dJ4_resize_54 (by decide) ?_
  refine go_N_lt hC 85 dJ4_resize_56 (by decide) rfl rfl (by omega) (by omega) (fun z => absurd z (Nat.not_lt.mpr hp4)) (fun c56 => ?_)
  refine go_iload_n hC dJ4_resize_59 rfl ?_
  refine go_iconst hC (1) dJ4_resize_60 (by decide) ?_
  refine go_ishl hC dJ4_resize_61 ?_
  rw [es2]
  refine go_istore hC dJ4_resize_62 (by decide) ?_
  refine go_goto hC 85 dJ4_resize_64 (by decide) ?_
  refine go_iload hC dJ4_resize_85 rfl ?_
  refine go_if_ne hC 125 dJ4_resize_87 (by decide) (fun _ => ?_) (fun z => absurd z (nI_ne0 (by omega) (by omega)))
  refine go_aload_n hC dJ4_resize_125 rfl ?_
  refine go_iload hC dJ4_resize_126 rfl ?_
  refine go_put hC kJ4 g1 6 q165 dJ4_resize_128 (by decide) (Nat.le_of_ble_eq_true rfl) (Or.inl rfl) rfl rfl rfl ?_
  refine go_iload hC dJ4_resize_131 rfl ?_
  refine go_newq hC 5 (2^(k+1)) (fun _ => (r, 8)) q1291 hC.2.2.2.2.2.1.2.2.1.2.1 rfl rfl (by omega) (by omega) (by omega) dJ4_resize_133 (fun T2 T2n T2b => ?_)
  refine go_astore hC dJ4_resize_136 (by decide) ?_
  refine go_aload_n hC dJ4_resize_138 rfl ?_
  refine go_aload hC dJ4_resize_139 rfl ?_
  refine go_put hC kJ4 (hu_n T2n hu_eq) 2 q162 dJ4_resize_141 (by decide) (Nat.le_of_ble_eq_true rfl) (Or.inl rfl) rfl rfl rfl ?_
  have g2' : hu h mp (r, 2) (ob 8 ([.null, .null, .ref T, .null, .int (nI sz), .int mc, .int (nI (12 * 2 ^ (k - 4))), .float lf].set 6 (.int (nI (12 * 2 ^ (k + 1 - 4)))))) T = some ((r, 8), oa G 5 (2 ^ k) f) := hu_k g2 g1 (ow_ne (by decide))
  have hTT : T ≠ T2 := fun e => by rw [← e, g2'] at T2n; cases T2n
  have hX0 : RX G h r d mp k T T2 bk f sz mc lf 0 (hu (hu (hu h mp (r, 2) (ob 8 ([.null, .null, .ref T, .null, .int (nI sz), .int mc, .int (nI (12 * 2 ^ (k - 4))), .float lf].set 6 (.int (nI (12 * 2 ^ (k + 1 - 4))))))) T2 (r, 8) (oa G 5 (2 ^ (k + 1)) (fun _ => none))) mp (r, 2) (ob 8 (([.null, .null, .ref T, .null, .int (nI sz), .int mc, .int (nI (12 * 2 ^ (k - 4))), .float lf].set 6 (.int (nI (12 * 2 ^ (k + 1 - 4))))).set 2 (.ref T2)))) f (fun _ => none) := by
    have hm1 := hu_n (o2 := (r, 8)) (e' := oa G 5 (2 ^ (k + 1)) (fun _ => none)) T2n (hu_eq (h := h) (a := mp) (o := (r, 2)))
    refine ⟨hu_eq, hu_k (hu_n T2n g2') hm1 (ow_ne (by decide)), hu_k hu_eq hm1 (ow_ne (by decide)), fun _ _ => rfl, fun i _ hi => ⟨?_, rfl, rfl⟩, fun i hi => absurd hi (Nat.not_lt_zero _), ((fr.rf.up g1 ⟨rfl, Or.inl rfl⟩).nw T2n).up hm1 ⟨rfl, Or.inl rfl⟩⟩
    exact seg_up hm1 (ow_nd (by decide)) (fun x _ => ow_nd (by omega)) (seg_new T2n (seg_up g1 (ow_nd (by decide)) (fun x _ => ow_nd (by omega)) (g4 i hi).1))
  have hc0 : chn (hu (hu (hu h mp (r, 2) (ob 8 ([.null, .null, .ref T, .null, .int (nI sz), .int mc, .int (nI (12 * 2 ^ (k - 4))), .float lf].set 6 (.int (nI (12 * 2 ^ (k + 1 - 4))))))) T2 (r, 8) (oa G 5 (2 ^ (k + 1)) (fun _ => none))) mp (r, 2) (ob 8 (([.null, .null, .ref T, .null, .int (nI sz), .int mc, .int (nI (12 * 2 ^ (k - 4))), .float lf].set 6 (.int (nI (12 * 2 ^ (k + 1 - 4))))).set 2 (.ref T2)))) r d (bk 0) (f 0) := by
    have hm1 := hu_n (o2 := (r, 8)) (e' := oa G 5 (2 ^ (k + 1)) (fun _ => none)) T2n (hu_eq (h := h) (a := mp) (o := (r, 2)))
    exact seg_up hm1 (ow_nd (by decide)) (fun x _ => ow_nd (by omega)) (seg_new T2n (seg_up g1 (ow_nd (by decide)) (fun x _ => ow_nd (by omega)) (g4 0 (by omega)).1))
  have outer : ∀ (w j : Nat) (h1 : PH) (f1 f2 : Nat → Option Nat) (z8 z9 z10 z11 z12 z13 : Option Value), 2 ^ k - j = w → j ≤ 2 ^ k → RX G h r d mp k T T2 bk f sz mc lf j h1 f1 f2 → (j < 2 ^ k → f1 j = f j ∧ chn h1 r d (bk j) (f j) ∧ f2 j = none ∧ f2 (j + 2 ^ k) = none) → Go X G h1 (1 - 1) (64 - 2 ^ (k + 1)) 151 [some (.ref mp), some (.ref T), some (.int (nI (2 ^ k))), some (.int (nI (12 * 2 ^ (k - 4)))), some (.int (nI (2 ^ (k + 1)))), some (.int (nI (12 * 2 ^ (k + 1 - 4)))), some (.ref T2), some (.int (nI j)), z8, z9, z10, z11, z12, z13] [] := by
    refine lpA (fun w => w) (fun w ih j h1 f1 f2 z8 z9 z10 z11 z12 z13 hw hj hX hrow => ?_)
    have next : ∀ (h2 : PH) (f1' f2' : Nat → Option Nat) (z8 z9 z10 z11 z12 z13 : Option Value), j < 2 ^ k → RX G h r d mp k T T2 bk f sz mc lf j h2 f1' f2' → chn h2 r d ((bk j).filter (bz (2 ^ k))) (f2' j) → chn h2 r d ((bk j).filter (bo (2 ^ k))) (f2' (j + 2 ^ k)) → Go X G h2 (1 - 1) (64 - 2 ^ (k + 1)) 347 [some (.ref mp), some (.ref T), some (.int (nI (2 ^ k))), some (.int (nI (12 * 2 ^ (k - 4)))), some (.int (nI (2 ^ (k + 1)))), some (.int (nI (12 * 2 ^ (k + 1 - 4)))), some (.ref T2), some (.int (nI j)), z8, z9, z10, z11, z12, z13] [] := by
      intro h2 f1' f2' z8 z9 z10 z11 z12 z13 hjl hX2 hc1 hc2
      obtain ⟨q1, q2, q3, q4, q5, q6, q7⟩ := hX2
      refine go_iinc hC (v := nI (j + 1)) dJ4_resize_347 rfl (nI_1 _) (by decide) ?_
      refine go_goto hC 151 dJ4_resize_350 (by decide) ?_
      refine ih (2 ^ k - (j + 1)) (by omega) (j + 1) h2 f1' f2' _ _ _ _ _ _ rfl (by omega) ⟨q1, q2, q3, fun i hi => q4 i (by omega), fun i h1 h2 => q5 i (by omega) h2, fun i hi => ?_, q7⟩ (fun hlt => ⟨q4 _ (by omega), (q5 _ (by omega) hlt).1, (q5 _ (by omega) hlt).2⟩)
      rcases Nat.lt_or_ge i j with z | z
      · exact q6 i z
      · have : i = j := by omega
        subst this
        exact ⟨hc1, hc2⟩
    obtain ⟨x1, x2, x3, x4, x5, x6, x7⟩ := hX
    refine go_iload hC dJ4_resize_151 rfl ?_
    refine go_iload_n hC dJ4_resize_153 rfl ?_
    refine go_N_ge hC 353 dJ4_resize_154 (by decide) rfl rfl (by omega) (by omega) (fun c154 => ?_) (fun c154 => ?_)
    · have hjj : j = 2 ^ k := by omega
      subst hjj
      refine go_aload hC dJ4_resize_353 rfl ?_
      refine go_aret hC hF dJ4_resize_355 rfl (Or.inr ⟨_, rfl⟩) (Or.inr ⟨_, rfl⟩) ?_
      refine ⟨T2, rfl, ⟨mc, lf, Or.inr ⟨k + 1, T2, f2, fun i => if i < 2 ^ k then (bk i).filter (bz (2 ^ k)) else (bk (i - 2 ^ k)).filter (bo (2 ^ k)), ⟨by omega, by omega⟩, x1, x3, g3, fun i hi => ?_, fun n hn => ?_⟩⟩, x7⟩
      · by_cases z : i < 2 ^ k
        · simp only [if_pos z]
          refine ⟨(x6 i z).1, fun x hx => ?_, List.Sublist.nodup (List.Sublist.map _ List.filter_sublist) (g4 i z).2.2⟩
          obtain ⟨y1, y2⟩ := List.mem_filter.mp hx
          have e1 := (g4 i z).2.1 x y1
          have e2 : hsh (nN x) / 2 ^ k % 2 = 0 := by simpa [bz] using y2
          rw [hmod, e1, e2]; omega
        · simp only [if_neg z]
          have z2 : i - 2 ^ k < 2 ^ k := by omega
          have e0 : i - 2 ^ k + 2 ^ k = i := by omega
          refine ⟨by have := (x6 _ z2).2; rwa [e0] at this, fun x hx => ?_, List.Sublist.nodup (List.Sublist.map _ List.filter_sublist) (g4 _ z2).2.2⟩
          obtain ⟨y1, y2⟩ := List.mem_filter.mp hx
          have e1 := (g4 _ z2).2.1 x y1
          have e2 : hsh (nN x) / 2 ^ k % 2 = 1 := by have : ¬ hsh (nN x) / 2 ^ k % 2 = 0 := by simpa [bo] using y2
                                                     omega
          rw [hmod, e1, e2]; omega
      · rw [g5 n hn]
        have hb : hsh n / 2 ^ k % 2 = 0 ∨ hsh n / 2 ^ k % 2 = 1 := by omega
        have hlt : hsh n % 2 ^ k < 2 ^ k := Nat.mod_lt _ (by omega)
        have e := hmod n
        rcases hb with b | b
        · have e1 : hsh n % 2 ^ (k + 1) = hsh n % 2 ^ k := by rw [e, b]; omega
          show _ = Option.map nV (List.find? _ (ite _ _ _))
          rw [e1, if_pos hlt, find_filter (fun x _ hx => by have : nN x = n := by simpa using hx
                                                            simp [bz, this, b])]
        · have e1 : hsh n % 2 ^ (k + 1) = hsh n % 2 ^ k + 2 ^ k := by rw [e, b]; omega
          show _ = Option.map nV (List.find? _ (ite _ _ _))
          rw [e1, if_neg (by omega), Nat.add_sub_cancel, find_filter (fun x _ hx => by have : nN x = n := by simpa using hx
                                                                                       simp [bo, this, b])]
    · obtain ⟨y1, y2, y3, y4⟩ := hrow c154
      have hX : RX G h r d mp k T T2 bk f sz mc lf j h1 f1 f2 := ⟨x1, x2, x3, x4, x5, x6, x7⟩
      have hb := fun i hi => (g4 i hi).2.1
      have hndj := (g4 j c154).2.2
      have hmj := (g4 j c154).2.1
      refine go_aload_n hC dJ4_resize_157 rfl ?_
      refine go_iload hC dJ4_resize_158 rfl ?_
      generalize hbj : bk j = full at y2 hndj hmj
      cases full with
      | nil =>
        have hfj : f1 j = none := y1.trans y2
        refine go_aaldN hC j x2 rfl dJ4_resize_160 (by first | rfl | (simp only [nI_add, pk_mul, nI_1, Int32.add_zero]; done) | (simp only [nI_add, pk_mul, nI_1, Int32.add_zero]; exact congrArg nI (by omega))) (by omega) (by omega) hfj ?_
        refine go_dup hC dJ4_resize_161 rfl ?_
        refine go_astoreN hC dJ4_resize_162 (by decide) ?_
        refine go_ifnullN hC 347 dJ4_resize_164 (by decide) ?_
        exact next h1 f1 f2 _ _ _ _ _ _ c154 hX (by rw [hbj]; exact y3) (by rw [hbj]; exact y4)
      | cons x l =>
        have hfj : f1 j = some (nA x) := y1.trans y2.1
        obtain ⟨nx, hx1, hx, hch2, hxn, hxt⟩ := seg_hd y2
        have hX2 := hX.old hTT
        have hx' : hu h1 T (r, 8) (oa G 5 (2 ^ k) (va_up f1 j none)) (nA x) = some (nL9 r (nN x), ndc x nx) := hu_k hx x2 (Ne.symm (ow_nd (by omega)))
        have y2' : chn (hu h1 T (r, 8) (oa G 5 (2 ^ k) (va_up f1 j none))) r d (x :: l) (f j) := seg_up x2 (ow_nd (by decide)) (fun x _ => ow_nd (by omega)) y2
        rw [y2.1] at y2'
        have x3' : hu h1 T (r, 8) (oa G 5 (2 ^ k) (va_up f1 j none)) T2 = some ((r, 8), oa G 5 (2 ^ (k + 1)) f2) := hX2.2.2.1
        refine go_aald hC j x2 rfl dJ4_resize_160 (by first | rfl | (simp only [nI_add, pk_mul, nI_1, Int32.add_zero]; done) | (simp only [nI_add, pk_mul, nI_1, Int32.add_zero]; exact congrArg nI (by omega))) (by omega) (by omega) hfj ?_
        refine go_dup hC dJ4_resize_161 rfl ?_
        refine go_astore hC dJ4_resize_162 (by decide) ?_
        refine go_ifnull hC dJ4_resize_164 ?_
        refine go_aload_n hC dJ4_resize_167 rfl ?_
        refine go_iload hC dJ4_resize_168 rfl ?_
        refine go_null hC dJ4_resize_170 ?_
        refine go_aastN hC j x2 rfl dJ4_resize_171 (by first | rfl | (simp only [nI_add, pk_mul, nI_1, Int32.add_zero]; done) | (simp only [nI_add, pk_mul, nI_1, Int32.add_zero]; exact congrArg nI (by omega))) (by omega) (by omega) ?_
        refine go_aload hC dJ4_resize_172 rfl ?_
        refine go_get hC kJ23 hx' 3 q1325 dJ4_resize_174 rfl (by decide) (Or.inl rfl) ?_
        generalize hu h1 T (r, 8) (oa G 5 (2 ^ k) (va_up f1 j none)) = h2 at hX2 hx' y2' x3'
        cases l with
        | nil =>
          cases hch2
          refine go_ifnonnullN hC dJ4_resize_177 ?_
          refine go_aload hC dJ4_resize_180 rfl ?_
          refine go_aload hC dJ4_resize_182 rfl ?_
          refine go_get hC kJ23 hx' 0 q1314 dJ4_resize_184 rfl (by decide) (Or.inl rfl) ?_
          refine go_iload hC dJ4_resize_187 rfl ?_
          refine go_iconst hC (1) dJ4_resize_189 (by decide) ?_
          refine go_isub hC dJ4_resize_190 ?_
          refine go_iand hC dJ4_resize_191 ?_
          rw [hand _ hxn]
          have hj1 := hmj x List.mem_cons_self
          have hlt1 : hsh (nN x) % 2 ^ (k + 1) < 2 ^ (k + 1) := Nat.mod_lt _ (by omega)
          have hbit : hsh (nN x) / 2 ^ k % 2 = 0 ∨ hsh (nN x) / 2 ^ k % 2 = 1 := by omega
          have hi : hsh (nN x) % 2 ^ (k + 1) = j ∨ hsh (nN x) % 2 ^ (k + 1) = j + 2 ^ k := by
            rcases hbit with b | b
            · left; rw [hmod, hj1, b]; omega
            · right; rw [hmod, hj1, b]; omega
          have hX3 := hX2.put c154 hTT _ hi (some (nA x))
          have hs3 : chn (hu h2 T2 (r, 8) (oa G 5 (2 ^ (k + 1)) (va_up f2 (hsh (nN x) % 2 ^ (k + 1)) (some (nA x))))) r d [x] (some (nA x)) := seg_up x3' (ow_nd (by decide)) (fun x _ => ow_nd (by omega)) y2'
          refine go_aload hC dJ4_resize_192 rfl ?_
          refine go_aast hC (hsh (nN x) % 2 ^ (k + 1)) x3' rfl hx' rfl dJ4_resize_194 (by first | rfl | (simp only [nI_add, pk_mul, nI_1, Int32.add_zero]; done) | (simp only [nI_add, pk_mul, nI_1, Int32.add_zero]; exact congrArg nI (by omega))) (by omega) (by omega) ?_
          refine go_goto hC 347 dJ4_resize_195 (by decide) ?_
          refine next _ _ _ _ _ _ _ _ _ c154 hX3 ?_ ?_
          · rw [hbj]
            rcases hbit with b | b
            · rw [List.filter_cons_of_pos (by simp [bz, b]), show va_up f2 (hsh (nN x) % 2 ^ (k + 1)) (some (nA x)) j = some (nA x) from if_pos (by rw [hmod, hj1, b]; omega)]
              exact hs3
            · rw [List.filter_cons_of_neg (by simp [bz, b]), show va_up f2 (hsh (nN x) % 2 ^ (k + 1)) (some (nA x)) j = f2 j from if_neg (by rw [hmod, hj1, b]; omega)]
              exact y3
          · rw [hbj]
            rcases hbit with b | b
            · rw [List.filter_cons_of_neg (by simp [bo, b]), show va_up f2 (hsh (nN x) % 2 ^ (k + 1)) (some (nA x)) (j + 2 ^ k) = f2 (j + 2 ^ k) from if_neg (by rw [hmod, hj1, b]; omega)]
              exact y4
            · rw [List.filter_cons_of_pos (by simp [bo, b]), show va_up f2 (hsh (nN x) % 2 ^ (k + 1)) (some (nA x)) (j + 2 ^ k) = some (nA x) from if_pos (by rw [hmod, hj1, b]; omega)]
              exact hs3
        | cons w l =>
          have hnx : nx = some (nA w) := hch2.1
          subst hnx
          refine go_ifnonnull hC 198 dJ4_resize_177 (by decide) ?_
          refine go_aload hC dJ4_resize_198 rfl ?_
          refine go_instNo hC hx' rfl q865 hC.2.2.2.2.2.1.2.2.2.1.1 dJ4_resize_200 ?_
          refine go_if_eq hC 223 dJ4_resize_203 (by decide) (fun _ => ?_) (fun z => absurd rfl z)
          refine go_null hC dJ4_resize_223 ?_
          refine go_astoreN hC dJ4_resize_224 (by decide) ?_
          refine go_null hC dJ4_resize_226 ?_
          refine go_astoreN hC dJ4_resize_227 (by decide) ?_
          refine go_null hC dJ4_resize_229 ?_
          refine go_astoreN hC dJ4_resize_230 (by decide) ?_
          refine go_null hC dJ4_resize_232 ?_
          refine go_astoreN hC dJ4_resize_233 (by decide) ?_
          refine rsz_split (h := h2) (full := x :: w :: l) (N := 2 ^ k) (k := k) hC rfl hk.2 hndj (fun h3 pl ph z8 z13 q1 q2 q3 => ?_) (w :: l) x [] [] h2 none none _ fr.rf (Or.inl ⟨rfl, rfl⟩) (Or.inl ⟨rfl, rfl⟩) y2' rfl rfl (List.Perm.refl _)
          have hX3 := hX2.nodes c154 hb (by rw [hbj]; exact q1)
          have hlo9 : (((x :: w :: l).filter (bz (2 ^ k))).map nN).Nodup := List.Sublist.nodup (List.Sublist.map _ List.filter_sublist) hndj
          have hhi9 : (((x :: w :: l).filter (bo (2 ^ k))).map nN).Nodup := List.Sublist.nodup (List.Sublist.map _ List.filter_sublist) hndj
          have hlohi : ∀ y ∈ (x :: w :: l).filter (bz (2 ^ k)), ∀ z ∈ (x :: w :: l).filter (bo (2 ^ k)), nN y ≠ nN z := by
            intro y hy z hz e
            have a1 := (List.mem_filter.mp hy).2
            have a2 := (List.mem_filter.mp hz).2
            simp only [bz, bo, e] at a1 a2
            simp at a1 a2
            omega
          have hlom : ∀ y ∈ (x :: w :: l).filter (bz (2 ^ k)), y ∈ bk j := fun y hy => by rw [hbj]; exact (List.mem_filter.mp hy).1
          have hhim : ∀ y ∈ (x :: w :: l).filter (bo (2 ^ k)), y ∈ bk j := fun y hy => by rw [hbj]; exact (List.mem_filter.mp hy).1
          rw [← hbj] at q2 q3 hlo9 hhi9 hlohi hlom hhim ⊢
          generalize hlo : (bk j).filter (bz (2 ^ k)) = lo at q2 hlo9 hlohi hlom ⊢
          generalize hhi : (bk j).filter (bo (2 ^ k)) = hi at q3 hhi9 hlohi hhim ⊢
          have partB : ∀ (h4 : PH) (f4 : Nat → Option Nat) (z9 z10 : Option Value), RX G h r d mp k T T2 bk f sz mc lf j h4 (va_up f1 j none) f4 → chn h4 r d lo (f4 j) → opc h4 r d hi ph → f4 (j + 2 ^ k) = none → Go X G h4 (1 - 1) (64 - 2 ^ (k + 1)) 327 [some (.ref mp), some (.ref T), some (.int (nI (2 ^ k))), some (.int (nI (12 * 2 ^ (k - 4)))), some (.int (nI (2 ^ (k + 1)))), some (.int (nI (12 * 2 ^ (k + 1 - 4)))), some (.ref T2), some (.int (nI j)), z8, z9, z10, some (vO ph), some (vO (ltl hi)), z13] [] := by
            intro h4 f4 z9 z10 hX4 hl4 ho4 hn4
            cases hz : hi.getLast? with
            | none =>
              have e : hi = [] := List.getLast?_eq_none_iff.mp hz
              have e2 : ltl hi = none := by show Option.map nA hi.getLast? = _; rw [hz]; rfl
              rw [e2]
              refine go_aloadN hC dJ4_resize_327 rfl ?_
              refine go_ifnullN hC 347 dJ4_resize_329 (by decide) ?_
              refine next h4 _ f4 _ _ _ _ _ _ c154 hX4 (by rw [hlo]; exact hl4) ?_
              rw [hhi, e]; exact hn4
            | some z =>
              rw [vO_ltl hz]
              obtain ⟨-, nz, a, rfl, ⟨xa, na, ha⟩, hz4, hcl⟩ := opc_close ho4 hhi9 hz
              have hzm := List.mem_of_getLast? hz
              have hX5 := hX4.nodes (h2 := hu h4 (nA z) (nL9 r (nN z)) (ndc z none)) c154 hb (fr.rf.up hz4 ⟨z, hhim z hzm, rfl⟩)
              have hl5 : chn (hu h4 (nA z) (nL9 r (nN z)) (ndc z none)) r d lo (f4 j) := seg_up hz4 nL_t (fun y hy => nL_ne (fun q => hlohi y hy z hzm q.symm)) hl4
              have hv : ∃ (o2 : Ow) (vs : List Value), hu h4 (nA z) (nL9 r (nN z)) (ndc z none) a = some (o2, ob 9 vs) := by
                by_cases e : a = nA z
                · rw [e, hu_eq]; exact ⟨_, _, rfl⟩
                · rw [hu_ne e]; exact ⟨_, _, ha⟩
              obtain ⟨o2, vs, hv⟩ := hv
              refine go_aload hC dJ4_resize_327 rfl ?_
              refine go_ifnull hC dJ4_resize_329 ?_
              refine go_aload hC dJ4_resize_332 rfl ?_
              refine go_null hC dJ4_resize_334 ?_
              refine go_put hC kJ23 hz4 3 q1325 dJ4_resize_335 (by decide) (Nat.le_of_ble_eq_true rfl) (Or.inl rfl) rfl rfl rfl ?_
              refine go_aload hC dJ4_resize_338 rfl ?_
              refine go_iload hC dJ4_resize_340 rfl ?_
              refine go_iload_n hC dJ4_resize_342 rfl ?_
              refine go_iadd hC dJ4_resize_343 ?_
              refine go_aload hC dJ4_resize_344 rfl ?_
              refine go_aast hC (j+2^k) hX5.2.2.1 rfl hv rfl dJ4_resize_346 (by first | rfl | (simp only [nI_add, pk_mul, nI_1, Int32.add_zero]; done) | (simp only [nI_add, pk_mul, nI_1, Int32.add_zero]; exact congrArg nI (by omega))) (by omega) (by omega) ?_
              have hX6 := hX5.put c154 hTT (j + 2 ^ k) (Or.inr rfl) (some a)
              refine next _ _ _ _ _ _ _ _ _ c154 hX6 ?_ ?_
              · rw [hlo, show va_up f4 (j + 2 ^ k) (some a) j = f4 j from if_neg (by omega)]
                exact seg_up hX5.2.2.1 (ow_nd (by decide)) (fun x _ => ow_nd (by omega)) hl5
              · rw [hhi, show va_up f4 (j + 2 ^ k) (some a) (j + 2 ^ k) = some a from if_pos rfl]
                exact seg_up hX5.2.2.1 (ow_nd (by decide)) (fun x _ => ow_nd (by omega)) hcl
          cases hz : lo.getLast? with
          | none =>
            have e : lo = [] := List.getLast?_eq_none_iff.mp hz
            have e2 : ltl lo = none := by show Option.map nA lo.getLast? = _; rw [hz]; rfl
            rw [e2]
            refine go_aloadN hC dJ4_resize_309 rfl ?_
            refine go_ifnullN hC 327 dJ4_resize_311 (by decide) ?_
            exact partB h3 f2 _ _ hX3 (by rw [e]; exact y3) q3 y4
          | some z =>
            rw [vO_ltl hz]
            obtain ⟨-, nz, a, rfl, ⟨xa, na, ha⟩, hz4, hcl⟩ := opc_close q2 hlo9 hz
            have hzm := List.mem_of_getLast? hz
            have hX5 := hX3.nodes (h2 := hu h3 (nA z) (nL9 r (nN z)) (ndc z none)) c154 hb (fr.rf.up hz4 ⟨z, hlom z hzm, rfl⟩)
            have hl5 : opc (hu h3 (nA z) (nL9 r (nN z)) (ndc z none)) r d hi ph := opc_up hz4 nL_t (fun y hy => nL_ne (hlohi z hzm y hy)) q3
            have hv : ∃ (o2 : Ow) (vs : List Value), hu h3 (nA z) (nL9 r (nN z)) (ndc z none) a = some (o2, ob 9 vs) := by
              by_cases e : a = nA z
              · rw [e, hu_eq]; exact ⟨_, _, rfl⟩
              · rw [hu_ne e]; exact ⟨_, _, ha⟩
            obtain ⟨o2, vs, hv⟩ := hv
            refine go_aload hC dJ4_resize_309 rfl ?_
            refine go_ifnull hC dJ4_resize_311 ?_
            refine go_aload hC dJ4_resize_314 rfl ?_
            refine go_null hC dJ4_resize_316 ?_
            refine go_put hC kJ23 hz4 3 q1325 dJ4_resize_317 (by decide) (Nat.le_of_ble_eq_true rfl) (Or.inl rfl) rfl rfl rfl ?_
            refine go_aload hC dJ4_resize_320 rfl ?_
            refine go_iload hC dJ4_resize_322 rfl ?_
            refine go_aload hC dJ4_resize_324 rfl ?_
            refine go_aast hC j hX5.2.2.1 rfl hv rfl dJ4_resize_326 (by first | rfl | (simp only [nI_add, pk_mul, nI_1, Int32.add_zero]; done) | (simp only [nI_add, pk_mul, nI_1, Int32.add_zero]; exact congrArg nI (by omega))) (by omega) (by omega) ?_
            have hX6 := hX5.put c154 hTT j (Or.inl rfl) (some a)
            refine partB _ _ _ _ hX6 ?_ ?_ ?_
            · rw [show va_up f2 j (some a) j = some a from if_pos rfl]
              exact seg_up hX5.2.2.1 (ow_nd (by decide)) (fun x _ => ow_nd (by omega)) hcl
            · exact opc_up hX5.2.2.1 (ow_nd (by decide)) (fun x _ => ow_nd (by omega)) hl5
            · rw [show va_up f2 j (some a) (j + 2 ^ k) = f2 (j + 2 ^ k) from if_neg (by omega)]; exact y4
  refine go_aload_n hC dJ4_resize_144 rfl ?_
  refine go_ifnull hC dJ4_resize_145 ?_
  refine go_iconst hC (0) dJ4_resize_148 (by decide) ?_
  refine go_istore hC dJ4_resize_149 (by decide) ?_
  exact outer _ 0 _ f (fun _ => none) _ _ _ _ _ _ rfl (Nat.zero_le _) hX0 (fun _ => ⟨rfl, hc0, rfl, rfl⟩)
end RS2
