/-! THE REFERENCE: texts, saved states -/
set_option maxRecDepth 100000
def isd (c : Nat) : Bool := decide (48 ≤ c ∧ c ≤ 57)
abbrev ch (tx : List Nat) (p : Nat) : Nat := tx.getD p 0
/-- the digits of a number behind its first: place, number, how many; n more may come -/
def dgs (tx : List Nat) : Nat → Nat → Nat → Nat × Nat × Nat
  | 0, p, v => (p, v, 0)
  | n + 1, p, v => if 0 < v ∧ isd (ch tx p) = true then dgs tx n (p + 1) (10 * v + ch tx p - 48) else (p, v, n + 1)
/-- a number is read at p: whether it is well, the place behind, the batch -/
def rdN (tx : List Nat) (p : Nat) (bs : List Nat) : Bool × Nat × List Nat :=
  if isd (ch tx p) = true then
    if (dgs tx 2 (p + 1) (ch tx p - 48)).2.1 ∈ bs then
      (false, (dgs tx 2 (p + 1) (ch tx p - 48)).1 - (if (dgs tx 2 (p + 1) (ch tx p - 48)).2.1 = 0 then 1 else if (dgs tx 2 (p + 1) (ch tx p - 48)).2.2 = 0 then 1 else 0), bs)
    else (true, (dgs tx 2 (p + 1) (ch tx p - 48)).1, bs ++ [(dgs tx 2 (p + 1) (ch tx p - 48)).2.1])
  else (false, p, bs)
def rdL (tx : List Nat) : Nat → Bool × Nat × List Nat → Bool × Nat × List Nat
  | 0, r => r
  | n + 1, r => if r.1 = true ∧ r.2.1 < tx.length then
      if ch tx r.2.1 = 44 ∧ r.2.2.length < 6 then rdL tx n (rdN tx (r.2.1 + 1) r.2.2) else (false, r.2.1, r.2.2)
    else r
def rdA (tx : List Nat) : Bool × Nat × List Nat := rdL tx (tx.length + 1) (rdN tx 0 [])
/-- a text as it can be -/
def TX (tx : List Nat) : Prop := tx.length ≤ 60 ∧ ∀ c ∈ tx, 33 ≤ c ∧ c ≤ 126
theorem ch_lt {tx : List Nat} (h : TX tx) (p : Nat) : ch tx p ≤ 126 := by
  unfold ch
  rw [List.getD_eq_getElem?_getD]
  cases e : tx[p]? with
  | none => simp
  | some c => exact (h.2 c (List.mem_of_getElem? e)).2
theorem isd_nI {c : Nat} (h : c ≤ 126) : decide (nI 48 ≤ nI c ∧ nI c ≤ nI 57) = isd c := by
  unfold isd
  exact decide_eq_decide.mpr (and_congr (nI_leI (by omega) (by omega)) (nI_leI (by omega) (by omega)))
theorem isd_end {tx : List Nat} {p : Nat} (h : isd (ch tx p) = true) : p < tx.length := by
  rcases Nat.lt_or_ge p tx.length with q | q
  · exact q
  · unfold ch at h
    rw [List.getD_eq_getElem?_getD, List.getElem?_eq_none q] at h
    exact absurd h (by decide)
theorem isd_r {c : Nat} (h : isd c = true) : 48 ≤ c ∧ c ≤ 57 := of_decide_eq_true h
theorem dgs_ok (tx : List Nat) : ∀ (n p v : Nat), p ≤ tx.length → p ≤ (dgs tx n p v).1 ∧ (dgs tx n p v).1 ≤ tx.length ∧ (v < 10 ^ (3 - n) → n ≤ 2 → (dgs tx n p v).2.1 < 1000)
  | 0, p, v, h => ⟨Nat.le_refl _, h, fun z _ => z⟩
  | n + 1, p, v, h => by
    unfold dgs
    by_cases q : 0 < v ∧ isd (ch tx p) = true
    · rw [if_pos q]
      have hp := isd_end q.2
      have hc := isd_r q.2
      have := dgs_ok tx n (p + 1) (10 * v + ch tx p - 48) hp
      refine ⟨by omega, this.2.1, fun z z2 => this.2.2 ?_ (by omega)⟩
      have e : 10 ^ (3 - n) = 10 * 10 ^ (3 - (n + 1)) := by rw [show 3 - n = (3 - (n + 1)) + 1 by omega, Nat.pow_succ, Nat.mul_comm]
      rw [e]; omega
    · rw [if_neg q]
      exact ⟨Nat.le_refl _, h, fun z z2 => Nat.lt_of_lt_of_le z (show 10 ^ (3 - (n + 1)) ≤ 1000 from Nat.le_trans (Nat.pow_le_pow_right (by omega) (show 3 - (n + 1) ≤ 3 by omega)) (by decide))⟩
theorem rdN_ok (tx : List Nat) (p : Nat) (bs : List Nat) (hp : p ≤ tx.length) (hb : ∀ x ∈ bs, x < 1000) (hn : bs.Nodup) : (rdN tx p bs).2.1 ≤ tx.length ∧ p ≤ (rdN tx p bs).2.1 ∧ (rdN tx p bs).2.2.length ≤ bs.length + 1 ∧ (∀ x ∈ (rdN tx p bs).2.2, x < 1000) ∧ (rdN tx p bs).2.2.Nodup := by
  unfold rdN
  by_cases q : isd (ch tx p) = true
  · rw [if_pos q]
    have hp2 := isd_end q
    have hc := isd_r q
    obtain ⟨d1, d2, d3⟩ := dgs_ok tx 2 (p + 1) (ch tx p - 48) hp2
    have d3 := d3 (by omega) (by omega)
    by_cases r : (dgs tx 2 (p + 1) (ch tx p - 48)).2.1 ∈ bs
    · rw [if_pos r]
      refine ⟨Nat.le_trans (Nat.sub_le _ _) d2, ?_, Nat.le_succ _, hb, hn⟩
      show p ≤ (dgs tx 2 (p + 1) (ch tx p - 48)).1 - _
      have : (if (dgs tx 2 (p + 1) (ch tx p - 48)).2.1 = 0 then 1 else if (dgs tx 2 (p + 1) (ch tx p - 48)).2.2 = 0 then 1 else 0) ≤ 1 := by split; exact Nat.le_refl _; split; exact Nat.le_refl _; exact Nat.zero_le _
      omega
    · rw [if_neg r]
      refine ⟨d2, by show p ≤ (dgs _ _ _ _).1; omega, by simp, fun x hx => ?_, ?_⟩
      · rcases List.mem_append.mp hx with z | z
        · exact hb x z
        · rw [List.mem_singleton.mp z]; exact d3
      · refine List.nodup_append.mpr ⟨hn, by simp, fun a ha b hb2 => ?_⟩
        rw [List.mem_singleton.mp hb2]
        exact fun z => r (z ▸ ha)
  · rw [if_neg q]
    exact ⟨hp, Nat.le_refl _, Nat.le_succ _, hb, hn⟩
/-- what a batch that is read is like -/
def BS (bs : List Nat) : Prop := bs.length ≤ 6 ∧ (∀ x ∈ bs, x < 1000) ∧ bs.Nodup
theorem rdL_ok (tx : List Nat) : ∀ (n : Nat) (r : Bool × Nat × List Nat), r.2.1 ≤ tx.length → BS r.2.2 → (rdL tx n r).2.1 ≤ tx.length ∧ BS (rdL tx n r).2.2
  | 0, r, h1, h2 => ⟨h1, h2⟩
  | n + 1, r, h1, h2 => by
    unfold rdL
    by_cases q : r.1 = true ∧ r.2.1 < tx.length
    · rw [if_pos q]
      by_cases z : ch tx r.2.1 = 44 ∧ r.2.2.length < 6
      · rw [if_pos z]
        obtain ⟨a1, a2, a3, a4, a5⟩ := rdN_ok tx (r.2.1 + 1) r.2.2 q.2 h2.2.1 h2.2.2
        exact rdL_ok tx n _ a1 ⟨by omega, a4, a5⟩
      · rw [if_neg z]; exact ⟨h1, h2⟩
    · rw [if_neg q]; exact ⟨h1, h2⟩
theorem rdA_ok (tx : List Nat) : (rdA tx).2.1 ≤ tx.length ∧ BS (rdA tx).2.2 := by
  obtain ⟨a1, a2, a3, a4, a5⟩ := rdN_ok tx 0 [] (Nat.zero_le _) (fun x hx => by cases hx) List.nodup_nil
  exact rdL_ok tx _ _ a1 ⟨by simp at a3; omega, a4, a5⟩
section M6
variable {G : GT} {h : PH} {m : Nat} {A : Nat → Nat} {f : Nat → Int32} {hs : Int64} {g : Nat → Nat → Int32} {t : St} {c : Nat}
theorem c_X3_fails (hM : MRep G h m A f hs g) (x : Int32) : CT G yX3_fails cX3_fails 2 (some .int) (rmL 1 0 0) [.ref m, .int x] h (fun v h' => v = some (.int 0) ∧ MRep G h' m A (upd f 0 x) hs g ∧ Mto h h' m) noX := by
  refine CT_of [some (.ref m), some (.int x)] (by decide +kernel) rfl (Nat.le_of_ble_eq_true rfl) (fun X hC hF hE => ?_)
  refine go_aload_n hC dX3_fails_0 rfl ?_
  refine go_iload_n hC dX3_fails_1 rfl ?_
  refine go_put hC kX3 hM.1 0 q1752 dX3_fails_2 (by decide) (Nat.le_of_ble_eq_true rfl) (Or.inl rfl) rfl rfl rfl ?_
  refine go_iconst hC (0) dX3_fails_5 (by decide) ?_
  refine go_iret hC hF dX3_fails_6 rfl rfl ?_
  exact ⟨rfl, hM.uo rfl, Mto.rf.st hM.1⟩
theorem c_X3_sign (hM : MRep G h m A f hs g) (tx : List Nat) (p : Nat) (htx : TX tx) (h5 : arL (g 5) tx) (h6 : f 6 = nI tx.length) (h7 : f 7 = nI p) (hp : p ≤ tx.length) : CT G yX3_sign cX3_sign 1 (some .int) (rmL 1 0 0) [.ref m] h (fun v h' => v = some (.int (nI (ch tx p))) ∧ h = h') noX := by
  refine CT_of [some (.ref m)] (by decide +kernel) rfl (Nat.le_of_ble_eq_true rfl) (fun X hC hF hE => ?_)
  have ht := htx.1
  refine go_aload_n hC dX3_sign_0 rfl ?_
  refine go_get hC kX3 hM.1 7 q1759 dX3_sign_1 rfl (by decide) (Or.inl rfl) ?_
  refine go_aload_n hC dX3_sign_4 rfl ?_
  refine go_get hC kX3 hM.1 6 q1758 dX3_sign_5 rfl (by decide) (Or.inl rfl) ?_
  refine go_N_ge hC 23 dX3_sign_8 (by decide) h7 h6 (by omega) (by omega) (fun c8 => ?_) (fun c8 => ?_)
  · refine go_iconst hC (0) dX3_sign_23 (by decide) ?_
    refine go_iret hC hF dX3_sign_24 rfl rfl ?_
    have e : ch tx p = 0 := by unfold ch; rw [List.getD_eq_getElem?_getD, List.getElem?_eq_none c8]; rfl
    rw [e]
    exact ⟨rfl, rfl⟩
  · refine go_aload_n hC dX3_sign_11 rfl ?_
    refine go_get hC kX3 hM.1 5 q1757 dX3_sign_12 rfl (by decide) (Or.inl rfl) ?_
    refine go_aload_n hC dX3_sign_15 rfl ?_
    refine go_get hC kX3 hM.1 7 q1759 dX3_sign_16 rfl (by decide) (Or.inl rfl) ?_
    refine go_iald hC p hM.2.2.2.2.1 dX3_sign_19 h7 (by omega) (by omega) ?_
    refine go_goto hC 24 dX3_sign_20 (by decide) ?_
    refine go_iret hC hF dX3_sign_24 rfl rfl ?_
    exact ⟨by rw [arL_get h5 c8], rfl⟩
theorem c_X3_isTold (hM : MRep G h m A f hs g) (bs : List Nat) (hb : Bat f g bs) (hbb : ∀ x ∈ bs, x < 1000) (v : Nat) (hv : v < 1000) : CT G yX3_isTold cX3_isTold 4 (some .boolean) (rmL 1 0 0) [.ref m, .int (nI v)] h (fun z h' => z = some (.int (bI (decide (v ∈ bs)))) ∧ h = h') noX := by
  refine CT_of [some (.ref m), some (.int (nI v)), none, none] (by decide +kernel) rfl (Nat.le_of_ble_eq_true rfl) (fun X hC hF hE => ?_)
  obtain ⟨hb1, hb2, hb3⟩ := hb
  have loop : ∀ (i : Nat) (b : Bool), i ≤ bs.length → (b || decide (v ∈ bs.drop i)) = decide (v ∈ bs) → Go X G h 0 0 4 [some (.ref m), some (.int (nI v)), some (.int (bI b)), some (.int (nI i))] [] := by
    refine lpB (fun i _ => bs.length - i) (fun i b ih hi ha => ?_)
    refine go_iload_n hC dX3_isTold_4 rfl ?_
    refine go_aload_n hC dX3_isTold_5 rfl ?_
    refine go_get hC kX3 hM.1 10 q1762 dX3_isTold_6 rfl (by decide) (Or.inl rfl) ?_
    refine go_N_ge hC 38 dX3_isTold_9 (by decide) rfl hb2 (by omega) (by omega) (fun c9 => ?_) (fun c9 => ?_)
    · rw [drop_end (by omega)] at ha
      refine go_iload_n hC dX3_isTold_38 rfl ?_
      refine go_iret hC hF dX3_isTold_39 rfl (by cases b <;> rfl) ?_
      have : b = decide (v ∈ bs) := by rw [← ha]; simp
      rw [← this]
      exact ⟨rfl, rfl⟩
    · obtain ⟨x, hx, hdr⟩ := get_of c9
      have hx9 := hbb x (List.mem_of_getElem? hx)
      rw [hdr] at ha
      refine go_iload_n hC dX3_isTold_12 rfl ?_
      refine go_B_ne hC 26 dX3_isTold_13 (by decide) rfl (fun c13 => ?_) (fun c13 => ?_)
      · refine go_iconst hC (1) dX3_isTold_26 (by decide) ?_
        refine go_goto hC 31 dX3_isTold_27 (by decide) ?_
        refine go_istore_n hC dX3_isTold_31 (by decide) ?_
        refine go_iinc hC (v := nI (i + 1)) dX3_isTold_32 rfl (nI_1 _) (by decide) ?_
        refine go_goto hC 4 dX3_isTold_35 (by decide) ?_
        exact ih (i + 1) true (by omega) (by omega) (by rw [← ha, c13]; simp)
      · refine go_aload_n hC dX3_isTold_16 rfl ?_
        refine go_get hC kX3 hM.1 9 q1761 dX3_isTold_17 rfl (by decide) (Or.inl rfl) ?_
        refine go_iload_n hC dX3_isTold_20 rfl ?_
        refine go_iald hC i hM.2.2.2.2.2.1 dX3_isTold_21 (by first | rfl | (simp only [nI_add, pk_mul, nI_1, Int32.add_zero]; done) | (simp only [nI_add, pk_mul, nI_1, Int32.add_zero]; exact congrArg nI (by omega))) (by omega) (by omega) ?_
        rw [hb1 i x hx]
        refine go_iload_n hC dX3_isTold_22 rfl ?_
        refine go_N_ne hC 30 dX3_isTold_23 (by decide) rfl rfl (by omega) (by omega) (fun c23 => ?_) (fun c23 => ?_)
        · refine go_iconst hC (0) dX3_isTold_30 (by decide) ?_
          refine go_istore_n hC dX3_isTold_31 (by decide) ?_
          refine go_iinc hC (v := nI (i + 1)) dX3_isTold_32 rfl (nI_1 _) (by decide) ?_
          refine go_goto hC 4 dX3_isTold_35 (by decide) ?_
          exact ih (i + 1) false (by omega) (by omega) (by rw [← ha, c13]; simp [Ne.symm c23])
        · refine go_iconst hC (1) dX3_isTold_26 (by decide) ?_
          refine go_goto hC 31 dX3_isTold_27 (by decide) ?_
          refine go_istore_n hC dX3_isTold_31 (by decide) ?_
          refine go_iinc hC (v := nI (i + 1)) dX3_isTold_32 rfl (nI_1 _) (by decide) ?_
          refine go_goto hC 4 dX3_isTold_35 (by decide) ?_
          exact ih (i + 1) true (by omega) (by omega) (by rw [← ha, c13, c23]; simp)
  refine go_iconst hC (0) dX3_isTold_0 (by decide) ?_
  refine go_istore_n hC dX3_isTold_1 (by decide) ?_
  refine go_iconst hC (0) dX3_isTold_2 (by decide) ?_
  refine go_istore_n hC dX3_isTold_3 (by decide) ?_
  exact loop 0 false (Nat.zero_le _) (by simp)
theorem c_X3_readsNumber (hM : MRep G h m A f hs g) (tx bs : List Nat) (p : Nat) (htx : TX tx) (h5 : arL (g 5) tx) (h6 : f 6 = nI tx.length) (h7 : f 7 = nI p) (hp : p ≤ tx.length) (hb : Bat f g bs) (hb6 : bs.length < 6) (hbb : ∀ x ∈ bs, x < 1000) : CT G yX3_readsNumber cX3_readsNumber 3 none (rmL 2 0 0) [.ref m] h (fun v h' => v = none ∧ ∃ f' s9, MRep G h' m A f' hs (va_up g 9 s9) ∧ Mto h h' m ∧ f' 8 = bI (rdN tx p bs).1 ∧ f' 7 = nI (rdN tx p bs).2.1 ∧ f' 10 = nI (rdN tx p bs).2.2.length ∧ arL s9 (rdN tx p bs).2.2 ∧ f' 0 = f 0 ∧ f' 4 = f 4 ∧ f' 6 = f 6) noX := by
  refine CT_of [some (.ref m), none, none] (by decide +kernel) rfl (Nat.le_of_ble_eq_true rfl) (fun X hC hF hE => ?_)
  have ht := htx.1
  have hcp := ch_lt htx p
  obtain ⟨hb1, hb2, hb3⟩ := hb
  have e9 : va_up g 9 (g 9) = g := by funext q; by_cases z : q = 9 <;> simp [va_up, z]
  have end1 : ∀ (h1 : PH) (f1 : Nat → Int32) (x d : Int32) (q : Nat), MRep G h1 m A f1 hs g → Mto h h1 m → f1 8 = bI false → f1 7 = nI q → f1 10 = f 10 → f1 0 = f 0 → f1 4 = f 4 → f1 6 = f 6 → rdN tx p bs = (false, q, bs) → Go X G h1 0 0 151 [some (.ref m), some (.int x), some (.int d)] [] := by
    intro h1 f1 x d q hM1 ht1 k8 k7 k10 k0 k4 k6 he
    refine go_aload_n hC dX3_readsNumber_151 rfl ?_
    refine go_get hC kX3 hM1.1 8 q1760 dX3_readsNumber_152 rfl (by decide) (Or.inl rfl) ?_
    refine go_B_eq hC 178 dX3_readsNumber_155 (by decide) k8 (fun c155 => ?_) (fun z => absurd z (by decide))
    refine go_vret hC hF dX3_readsNumber_178 rfl ?_
    rw [he]
    exact ⟨rfl, f1, g 9, by rw [e9]; exact hM1, ht1, k8, k7, by rw [k10]; exact hb2, hb1, k0, k4, k6⟩
  have end2 : ∀ (h1 : PH) (f1 : Nat → Int32) (v d : Nat) (D : Nat × Nat × Nat), MRep G h1 m A f1 hs g → Mto h h1 m → f1 8 = bI true → f1 7 = nI D.1 → f1 10 = f 10 → f1 0 = f 0 → f1 4 = f 4 → f1 6 = f 6 → dgs tx 2 (p + 1) (ch tx p - 48) = D → isd (ch tx p) = true → v = D.2.1 → (d = 3 ↔ D.2.2 = 0) → d ≤ 3 → D.2.1 < 1000 → 1 ≤ D.1 → D.1 ≤ 60 → Go X G h1 0 0 105 [some (.ref m), some (.int (nI v)), some (.int (nI d))] [] := by
    intro h1 f1 v d D hM1 ht1 k8 k7 k10 k0 k4 k6 hD hd hv hd3 hd4 hv9 hD1 hD6
    subst hv
    have hB1 : Bat f1 g bs := ⟨hb1, by rw [k10]; exact hb2, hb3⟩
    refine go_aload_n hC dX3_readsNumber_105 rfl ?_
    refine go_get hC kX3 hM1.1 8 q1760 dX3_readsNumber_106 rfl (by decide) (Or.inl rfl) ?_
    refine go_B_eq hC 151 dX3_readsNumber_109 (by decide) k8 (fun z => absurd z (by decide)) (fun c109 => ?_)
    refine go_aload_n hC dX3_readsNumber_112 rfl ?_
    refine go_iload_n hC dX3_readsNumber_113 rfl ?_
    refine go_callV0 hC (c_X3_isTold hM1 bs hB1 hbb D.2.1 hv9) (lw_V q1925 q1927 qs51 q83 q1928) hM1.1 rfl dX3_readsNumber_114 1 rfl (by decide +kernel) rfl ⟨Nat.le_of_ble_eq_true rfl, Nat.le_of_ble_eq_true rfl⟩ (Nat.le_of_ble_eq_true rfl) ⟨rfl, rfl⟩ ?_
    rintro _ _ ⟨rfl, rfl⟩
    refine go_B_eq hC 151 dX3_readsNumber_117 (by decide) rfl (fun c117 => ?_) (fun c117 => ?_)
    · have hni := of_decide_eq_false c117
      have er : rdN tx p bs = (true, D.1, bs ++ [D.2.1]) := by unfold rdN; rw [if_pos hd, hD, if_neg hni]
      have hM2 := hM1.u9 (upd (g 9) bs.length (nI D.2.1))
      have ht2 : Mto h (hu h1 (A 9) (m, 9) (ia G 6 (upd (g 9) bs.length (nI D.2.1)))) m := ht1.st hM1.2.2.2.2.2.1
      refine go_aload_n hC dX3_readsNumber_151 rfl ?_
      refine go_get hC kX3 hM1.1 8 q1760 dX3_readsNumber_152 rfl (by decide) (Or.inl rfl) ?_
      refine go_B_eq hC 178 dX3_readsNumber_155 (by decide) k8 (fun z => absurd z (by decide)) (fun c155 => ?_)
      refine go_aload_n hC dX3_readsNumber_158 rfl ?_
      refine go_get hC kX3 hM1.1 9 q1761 dX3_readsNumber_159 rfl (by decide) (Or.inl rfl) ?_
      refine go_aload_n hC dX3_readsNumber_162 rfl ?_
      refine go_get hC kX3 hM1.1 10 q1762 dX3_readsNumber_163 rfl (by decide) (Or.inl rfl) ?_
      refine go_iload_n hC dX3_readsNumber_166 rfl ?_
      refine go_iast hC bs.length hM1.2.2.2.2.2.1 dX3_readsNumber_167 hB1.2.1 (by omega) (by omega) ?_
      refine go_aload_n hC dX3_readsNumber_168 rfl ?_
      refine go_dup hC dX3_readsNumber_169 rfl ?_
      refine go_get hC kX3 hM2.1 10 q1762 dX3_readsNumber_170 rfl (by decide) (Or.inl rfl) ?_
      refine go_iconst hC (1) dX3_readsNumber_173 (by decide) ?_
      refine go_iadd hC dX3_readsNumber_174 ?_
      refine go_put hC kX3 hM2.1 10 q1762 dX3_readsNumber_175 (by decide) (Nat.le_of_ble_eq_true rfl) (Or.inl rfl) rfl rfl rfl ?_
      refine go_vret hC hF dX3_readsNumber_178 rfl ?_
      rw [er]
      refine ⟨rfl, upd f1 10 (f1 10 + 1), _, hM2.uo rfl, ht2.st hM2.1, k8, k7, ?_, ?_, k0, k4, k6⟩
      · show f1 10 + 1 = _
        rw [hB1.2.1, nI_1, List.length_append]; rfl
      · intro j x hx
        show upd (g 9) bs.length (nI D.2.1) j = nI x
        rcases Nat.lt_or_ge j bs.length with z | z
        · have hx : (bs ++ [D.2.1])[j]? = some x := hx
          rw [List.getElem?_append_left z] at hx
          rw [pk_un (by omega)]; exact hb1 j x hx
        · have hx : (bs ++ [D.2.1])[j]? = some x := hx
          have hj : j = bs.length := by have := (List.getElem?_eq_some_iff.mp hx).1; simp at this; omega
          subst hj
          rw [List.getElem?_append_right (Nat.le_refl _), Nat.sub_self] at hx
          cases hx
          exact pk_us
    · have hin := of_decide_eq_true c117
      have hM2 : MRep G (hu h1 m (m, 0) (ob 6 ((mfs A f1 hs).set 8 (.int 0)))) m A (upd f1 8 0) hs g := hM1.uo rfl
      have ht2 : Mto h (hu h1 m (m, 0) (ob 6 ((mfs A f1 hs).set 8 (.int 0)))) m := ht1.st hM1.1
      have back : ∀ (x : Int32) (z : Nat), x = nI z → z ≤ 1 → z = (if D.2.1 = 0 then 1 else if D.2.2 = 0 then 1 else 0) → Go X G (hu h1 m (m, 0) (ob 6 ((mfs A f1 hs).set 8 (.int 0)))) 0 0 144 [some (.ref m), some (.int (nI D.2.1)), some (.int (nI d))] [.int x, .int (f1 7), .ref m] := by
        intro x z hx hz hz2
        have er : rdN tx p bs = (false, D.1 - z, bs) := by unfold rdN; rw [if_pos hd, hD, if_pos hin, hz2]
        have ex : f1 7 - x = nI (D.1 - z) := by rw [k7, hx]; exact pk_sub (by omega)
        refine go_isub hC dX3_readsNumber_144 ?_
        refine go_put hC kX3 hM2.1 7 q1759 dX3_readsNumber_145 (by decide) (Nat.le_of_ble_eq_true rfl) (Or.inl rfl) rfl rfl rfl ?_
        refine go_goto hC 178 dX3_readsNumber_148 (by decide) ?_
        refine go_vret hC hF dX3_readsNumber_178 rfl ?_
        rw [er]
        refine ⟨rfl, upd (upd f1 8 0) 7 (f1 7 - x), g 9, ?_, ht2.st hM2.1, rfl, ex, by show f1 10 = _; rw [k10]; exact hb2, hb1, k0, k4, k6⟩
        rw [e9]
        exact hM2.uo rfl
      refine go_aload_n hC dX3_readsNumber_120 rfl ?_
      refine go_iconst hC (0) dX3_readsNumber_121 (by decide) ?_
      refine go_put hC kX3 hM1.1 8 q1760 dX3_readsNumber_122 (by decide) (Nat.le_of_ble_eq_true rfl) (Or.inl rfl) rfl rfl rfl ?_
      refine go_aload_n hC dX3_readsNumber_125 rfl ?_
      refine go_dup hC dX3_readsNumber_126 rfl ?_
      refine go_get hC kX3 hM2.1 7 q1759 dX3_readsNumber_127 rfl (by decide) (Or.inl rfl) ?_
      refine go_iload_n hC dX3_readsNumber_130 rfl ?_
      refine go_if_eq hC 139 dX3_readsNumber_131 (by decide) (fun c131 => ?_) (fun c131 => ?_)
      · rw [nI_e0 (by omega)] at c131
        refine go_iconst hC (1) dX3_readsNumber_139 (by decide) ?_
        refine go_goto hC 144 dX3_readsNumber_140 (by decide) ?_
        exact back _ 1 rfl (Nat.le_refl _) (by rw [if_pos c131])
      · rw [nI_e0 (by omega)] at c131
        refine go_iload_n hC dX3_readsNumber_134 rfl ?_
        refine go_iconst hC (nI 3) dX3_readsNumber_135 (by decide) ?_
        refine go_N_ne hC 143 dX3_readsNumber_136 (by decide) rfl rfl (by omega) (by omega) (fun c136 => ?_) (fun c136 => ?_)
        · refine go_iconst hC (0) dX3_readsNumber_143 (by decide) ?_
          exact back _ 0 rfl (by omega) (by rw [if_neg c131, if_neg (fun z => c136 (hd3.mpr z))])
        · refine go_iconst hC (1) dX3_readsNumber_139 (by decide) ?_
          refine go_goto hC 144 dX3_readsNumber_140 (by decide) ?_
          exact back _ 1 rfl (Nat.le_refl _) (by rw [if_neg c131, if_pos (hd3.mp c136)])
  have loop : ∀ (n q v : Nat) (h1 : PH) (f1 : Nat → Int32), n ≤ 2 → q ≤ tx.length → 1 ≤ q → v < 10 ^ (3 - n) → MRep G h1 m A f1 hs g → Mto h h1 m → f1 8 = bI true → f1 7 = nI q → f1 10 = f 10 → f1 0 = f 0 → f1 4 = f 4 → f1 6 = f 6 → isd (ch tx p) = true → dgs tx 2 (p + 1) (ch tx p - 48) = dgs tx n q v → Go X G h1 0 0 46 [some (.ref m), some (.int (nI v)), some (.int (nI (3 - n)))] [] := by
    refine lpC (fun n _ _ => n) (fun n q v ih h1 f1 hn hq hq1 hv hM1 ht1 k8 k7 k10 k0 k4 k6 hd hD => ?_)
    have hv9 : v < 1000 := Nat.lt_of_lt_of_le hv (show 10 ^ (3 - n) ≤ 1000 from Nat.le_trans (Nat.pow_le_pow_right (by omega) (show 3 - n ≤ 3 by omega)) (by decide))
    have hcq := ch_lt htx q
    have stop : dgs tx n q v = (q, v, n) → Go X G h1 0 0 105 [some (.ref m), some (.int (nI v)), some (.int (nI (3 - n)))] [] := by
      intro hs9
      exact end2 h1 f1 v (3 - n) (q, v, n) hM1 ht1 k8 k7 k10 k0 k4 k6 (hD.trans hs9) hd rfl (by show 3 - n = 3 ↔ n = 0; omega) (by omega) hv9 hq1 (by show q ≤ 60; omega)
    refine go_aload_n hC dX3_readsNumber_46 rfl ?_
    refine go_get hC kX3 hM1.1 8 q1760 dX3_readsNumber_47 rfl (by decide) (Or.inl rfl) ?_
    refine go_B_eq hC 105 dX3_readsNumber_50 (by decide) k8 (fun z => absurd z (by decide)) (fun c50 => ?_)
    refine go_iload_n hC dX3_readsNumber_53 rfl ?_
    refine go_if_le hC 105 dX3_readsNumber_54 (by decide) (fun c54 => ?_) (fun c54 => ?_)
    · refine stop ?_
      have hv0 : v = 0 := by
        have := (nI_leI (a := v) (b := 0) (by omega) (by omega)).mp c54
        omega
      cases n with
      | zero => rfl
      | succ n => show ite _ _ _ = _; rw [if_neg (by omega)]
    · have hv0 : 0 < v := by
        rcases Nat.eq_zero_or_pos v with z | z
        · exact absurd (by rw [z]; decide) c54
        · exact z
      refine go_iload_n hC dX3_readsNumber_57 rfl ?_
      refine go_iconst hC (nI 3) dX3_readsNumber_58 (by decide) ?_
      refine go_N_ge hC 105 dX3_readsNumber_59 (by decide) rfl rfl (by omega) (by omega) (fun c59 => ?_) (fun c59 => ?_)
      · refine stop ?_
        rw [show n = 0 by omega]; rfl
      · cases n with
        | zero => exact absurd c59 (by omega)
        | succ n =>
          refine go_aload_n hC dX3_readsNumber_62 rfl ?_
          refine go_callV0 hC (c_X3_sign hM1 tx q htx h5 (by rw [k6]; exact h6) k7 hq) (lw_V q1921 q1923 qs50 q83 q1924) hM1.1 rfl dX3_readsNumber_63 0 rfl (by decide +kernel) rfl ⟨Nat.le_of_ble_eq_true rfl, Nat.le_of_ble_eq_true rfl⟩ (Nat.le_of_ble_eq_true rfl) ⟨rfl, rfl⟩ ?_
          rintro _ _ ⟨rfl, rfl⟩
          refine go_bipush hC (nI 48) dX3_readsNumber_66 (by decide) ?_
          refine go_bipush hC (nI 57) dX3_readsNumber_68 (by decide) ?_
          refine go_callS0 hC (c_X3_in (nI (ch tx q)) (nI 48) (nI 57)) (lw_S q1812 q1813 q83 q1814) dX3_readsNumber_70 3 rfl (by decide +kernel) rfl ⟨Nat.le_of_ble_eq_true rfl, Nat.le_of_ble_eq_true rfl⟩ (Nat.le_of_ble_eq_true rfl) ⟨rfl, rfl⟩ ?_
          rintro _ _ ⟨rfl, rfl⟩
          rw [isd_nI hcq]
          cases hdq : isd (ch tx q) with
          | false =>
            refine go_B_eq hC 105 dX3_readsNumber_73 (by decide) rfl (fun c73 => ?_) (fun z => absurd z (by decide))
            exact stop (by show ite _ _ _ = _; rw [if_neg (fun z => absurd (hdq.symm.trans z.2) (by decide))])
          | true =>
            have hr := isd_r hdq
            have hqe := isd_end hdq
            have e : nI 10 * nI v + nI (ch tx q) - nI 48 = nI (10 * v + ch tx q - 48) := by rw [pk_mul, nI_add]; exact pk_sub (by omega)
            have hM2 : MRep G (hu h1 m (m, 0) (ob 6 ((mfs A f1 hs).set 7 (.int (f1 7 + 1))))) m A (upd f1 7 (f1 7 + 1)) hs g := hM1.uo rfl
            have ht2 : Mto h (hu h1 m (m, 0) (ob 6 ((mfs A f1 hs).set 7 (.int (f1 7 + 1))))) m := ht1.st hM1.1
            have e2 : nI (3 - (n + 1)) + 1 = nI (3 - n) := by rw [nI_1]; exact congrArg nI (by omega)
            refine go_B_eq hC 105 dX3_readsNumber_73 (by decide) rfl (fun z => absurd z (by decide)) (fun c73 => ?_)
            refine go_bipush hC (nI 10) dX3_readsNumber_76 (by decide) ?_
            refine go_iload_n hC dX3_readsNumber_78 rfl ?_
            refine go_imul hC dX3_readsNumber_79 ?_
            refine go_aload_n hC dX3_readsNumber_80 rfl ?_
            refine go_callV0 hC (c_X3_sign hM1 tx q htx h5 (by rw [k6]; exact h6) k7 hq) (lw_V q1921 q1923 qs50 q83 q1924) hM1.1 rfl dX3_readsNumber_81 0 rfl (by decide +kernel) rfl ⟨Nat.le_of_ble_eq_true rfl, Nat.le_of_ble_eq_true rfl⟩ (Nat.le_of_ble_eq_true rfl) ⟨rfl, rfl⟩ ?_
            rintro _ _ ⟨rfl, rfl⟩
            refine go_iadd hC dX3_readsNumber_84 ?_
            refine go_bipush hC (nI 48) dX3_readsNumber_85 (by decide) ?_
            refine go_isub hC dX3_readsNumber_87 ?_
            rw [e]
            refine go_istore_n hC dX3_readsNumber_88 (by decide) ?_
            refine go_aload_n hC dX3_readsNumber_89 rfl ?_
            refine go_dup hC dX3_readsNumber_90 rfl ?_
            refine go_get hC kX3 hM1.1 7 q1759 dX3_readsNumber_91 rfl (by decide) (Or.inl rfl) ?_
            refine go_iconst hC (1) dX3_readsNumber_94 (by decide) ?_
            refine go_iadd hC dX3_readsNumber_95 ?_
            refine go_put hC kX3 hM1.1 7 q1759 dX3_readsNumber_96 (by decide) (Nat.le_of_ble_eq_true rfl) (Or.inl rfl) rfl rfl rfl ?_
            refine go_iinc hC (v := nI (3 - n)) dX3_readsNumber_99 rfl e2 (by decide) ?_
            refine go_goto hC 46 dX3_readsNumber_102 (by decide) ?_
            refine ih n (q + 1) (10 * v + ch tx q - 48) (Nat.lt_succ_self _) _ _ (by omega) (by omega) (by omega) ?_ hM2 ht2 k8 (by show f1 7 + 1 = _; rw [k7, nI_1]) k10 k0 k4 k6 hd ?_
            · have e3 : 10 ^ (3 - n) = 10 * 10 ^ (3 - (n + 1)) := by rw [show 3 - n = (3 - (n + 1)) + 1 by omega, Nat.pow_succ, Nat.mul_comm]
              rw [e3]; omega
            · rw [hD]; show ite _ _ _ = _; rw [if_pos ⟨hv0, hdq⟩]
  refine go_aload_n hC dX3_readsNumber_0 rfl ?_
  refine go_aload_n hC dX3_readsNumber_1 rfl ?_
  refine go_callV0 hC (c_X3_sign hM tx p htx h5 h6 h7 hp) (lw_V q1921 q1923 qs50 q83 q1924) hM.1 rfl dX3_readsNumber_2 0 rfl (by decide +kernel) rfl ⟨Nat.le_of_ble_eq_true rfl, Nat.le_of_ble_eq_true rfl⟩ (Nat.le_of_ble_eq_true rfl) ⟨rfl, rfl⟩ ?_
  rintro _ _ ⟨rfl, rfl⟩
  refine go_bipush hC (nI 48) dX3_readsNumber_5 (by decide) ?_
  refine go_bipush hC (nI 57) dX3_readsNumber_7 (by decide) ?_
  refine go_callS0 hC (c_X3_in (nI (ch tx p)) (nI 48) (nI 57)) (lw_S q1812 q1813 q83 q1814) dX3_readsNumber_9 3 rfl (by decide +kernel) rfl ⟨Nat.le_of_ble_eq_true rfl, Nat.le_of_ble_eq_true rfl⟩ (Nat.le_of_ble_eq_true rfl) ⟨rfl, rfl⟩ ?_
  rintro _ _ ⟨rfl, rfl⟩
  rw [isd_nI hcp]
  cases hd : isd (ch tx p) with
  | false =>
    have er : rdN tx p bs = (false, p, bs) := by unfold rdN; rw [if_neg (by rw [hd]; decide)]
    have hM1 : MRep G (hu h m (m, 0) (ob 6 ((mfs A f hs).set 8 (.int (bI false))))) m A (upd f 8 (bI false)) hs g := hM.uo rfl
    have ht1 : Mto h (hu h m (m, 0) (ob 6 ((mfs A f hs).set 8 (.int (bI false))))) m := Mto.rf.st hM.1
    refine go_put hC kX3 hM.1 8 q1760 dX3_readsNumber_12 (by decide) (Nat.le_of_ble_eq_true rfl) (Or.inl rfl) rfl rfl rfl ?_
    generalize hu h m (m, 0) (ob 6 ((mfs A f hs).set 8 (.int (bI false)))) = h1 at hM1 ht1
    have e7 : f 7 + 0 = nI p := by rw [h7]; exact Int32.add_zero _
    have hM2 : MRep G (hu h1 m (m, 0) (ob 6 ((mfs A (upd f 8 (bI false)) hs).set 7 (.int (f 7 + 0))))) m A (upd (upd f 8 (bI false)) 7 (f 7 + 0)) hs g := hM1.uo rfl
    have ht2 : Mto h (hu h1 m (m, 0) (ob 6 ((mfs A (upd f 8 (bI false)) hs).set 7 (.int (f 7 + 0))))) m := ht1.st hM1.1
    refine go_aload_n hC dX3_readsNumber_15 rfl ?_
    refine go_callV0 hC (c_X3_sign hM1 tx p htx h5 h6 h7 hp) (lw_V q1921 q1923 qs50 q83 q1924) hM1.1 rfl dX3_readsNumber_16 0 rfl (by decide +kernel) rfl ⟨Nat.le_of_ble_eq_true rfl, Nat.le_of_ble_eq_true rfl⟩ (Nat.le_of_ble_eq_true rfl) ⟨rfl, rfl⟩ ?_
    rintro _ _ ⟨rfl, rfl⟩
    refine go_bipush hC (nI 48) dX3_readsNumber_19 (by decide) ?_
    refine go_isub hC dX3_readsNumber_21 ?_
    refine go_istore_n hC dX3_readsNumber_22 (by decide) ?_
    refine go_aload_n hC dX3_readsNumber_23 rfl ?_
    refine go_dup hC dX3_readsNumber_24 rfl ?_
    refine go_get hC kX3 hM1.1 7 q1759 dX3_readsNumber_25 rfl (by decide) (Or.inl rfl) ?_
    refine go_aload_n hC dX3_readsNumber_28 rfl ?_
    refine go_get hC kX3 hM1.1 8 q1760 dX3_readsNumber_29 rfl (by decide) (Or.inl rfl) ?_
    refine go_B_eq hC 39 dX3_readsNumber_32 (by decide) (show upd f 8 (bI false) 8 = bI false from rfl) (fun c32 => ?_) (fun z => absurd z (by decide))
    refine go_iconst hC (0) dX3_readsNumber_39 (by decide) ?_
    refine go_iadd hC dX3_readsNumber_40 ?_
    refine go_put hC kX3 hM1.1 7 q1759 dX3_readsNumber_41 (by decide) (Nat.le_of_ble_eq_true rfl) (Or.inl rfl) rfl rfl rfl ?_
    refine go_iconst hC (1) dX3_readsNumber_44 (by decide) ?_
    refine go_istore_n hC dX3_readsNumber_45 (by decide) ?_
    refine go_aload_n hC dX3_readsNumber_46 rfl ?_
    refine go_get hC kX3 hM2.1 8 q1760 dX3_readsNumber_47 rfl (by decide) (Or.inl rfl) ?_
    refine go_B_eq hC 105 dX3_readsNumber_50 (by decide) (show upd (upd f 8 (bI false)) 7 (f 7 + 0) 8 = bI false from rfl) (fun c50 => ?_) (fun z => absurd z (by decide))
    refine go_aload_n hC dX3_readsNumber_105 rfl ?_
    refine go_get hC kX3 hM2.1 8 q1760 dX3_readsNumber_106 rfl (by decide) (Or.inl rfl) ?_
    refine go_B_eq hC 151 dX3_readsNumber_109 (by decide) (show upd (upd f 8 (bI false)) 7 (f 7 + 0) 8 = bI false from rfl) (fun c109 => ?_) (fun z => absurd z (by decide))
    exact end1 _ _ _ _ p hM2 ht2 rfl e7 rfl rfl rfl rfl er
  | true =>
    have hr := isd_r hd
    have hpe := isd_end hd
    have hM1 : MRep G (hu h m (m, 0) (ob 6 ((mfs A f hs).set 8 (.int (bI true))))) m A (upd f 8 (bI true)) hs g := hM.uo rfl
    have ht1 : Mto h (hu h m (m, 0) (ob 6 ((mfs A f hs).set 8 (.int (bI true))))) m := Mto.rf.st hM.1
    refine go_put hC kX3 hM.1 8 q1760 dX3_readsNumber_12 (by decide) (Nat.le_of_ble_eq_true rfl) (Or.inl rfl) rfl rfl rfl ?_
    generalize hu h m (m, 0) (ob 6 ((mfs A f hs).set 8 (.int (bI true)))) = h1 at hM1 ht1
    have e7 : f 7 + 1 = nI (p + 1) := by rw [h7, nI_1]
    have e1 : nI (ch tx p) - nI 48 = nI (ch tx p - 48) := pk_sub (by omega)
    have hM2 : MRep G (hu h1 m (m, 0) (ob 6 ((mfs A (upd f 8 (bI true)) hs).set 7 (.int (f 7 + 1))))) m A (upd (upd f 8 (bI true)) 7 (f 7 + 1)) hs g := hM1.uo rfl
    have ht2 : Mto h (hu h1 m (m, 0) (ob 6 ((mfs A (upd f 8 (bI true)) hs).set 7 (.int (f 7 + 1))))) m := ht1.st hM1.1
    refine go_aload_n hC dX3_readsNumber_15 rfl ?_
    refine go_callV0 hC (c_X3_sign hM1 tx p htx h5 h6 h7 hp) (lw_V q1921 q1923 qs50 q83 q1924) hM1.1 rfl dX3_readsNumber_16 0 rfl (by decide +kernel) rfl ⟨Nat.le_of_ble_eq_true rfl, Nat.le_of_ble_eq_true rfl⟩ (Nat.le_of_ble_eq_true rfl) ⟨rfl, rfl⟩ ?_
    rintro _ _ ⟨rfl, rfl⟩
    refine go_bipush hC (nI 48) dX3_readsNumber_19 (by decide) ?_
    refine go_isub hC dX3_readsNumber_21 ?_
    rw [e1]
    refine go_istore_n hC dX3_readsNumber_22 (by decide) ?_
    refine go_aload_n hC dX3_readsNumber_23 rfl ?_
    refine go_dup hC dX3_readsNumber_24 rfl ?_
    refine go_get hC kX3 hM1.1 7 q1759 dX3_readsNumber_25 rfl (by decide) (Or.inl rfl) ?_
    refine go_aload_n hC dX3_readsNumber_28 rfl ?_
    refine go_get hC kX3 hM1.1 8 q1760 dX3_readsNumber_29 rfl (by decide) (Or.inl rfl) ?_
    refine go_B_eq hC 39 dX3_readsNumber_32 (by decide) (show upd f 8 (bI true) 8 = bI true from rfl) (fun z => absurd z (by decide)) (fun c32 => ?_)
    refine go_iconst hC (1) dX3_readsNumber_35 (by decide) ?_
    refine go_goto hC 40 dX3_readsNumber_36 (by decide) ?_
    refine go_iadd hC dX3_readsNumber_40 ?_
    refine go_put hC kX3 hM1.1 7 q1759 dX3_readsNumber_41 (by decide) (Nat.le_of_ble_eq_true rfl) (Or.inl rfl) rfl rfl rfl ?_
    refine go_iconst hC (1) dX3_readsNumber_44 (by decide) ?_
    refine go_istore_n hC dX3_readsNumber_45 (by decide) ?_
    exact loop 2 (p + 1) (ch tx p - 48) _ _ (by omega) (by omega) (by omega) (by omega) hM2 ht2 rfl e7 rfl rfl rfl rfl hd rfl
theorem c_X3_readsAll (hM : MRep G h m A f hs g) (tx : List Nat) (htx : TX tx) (h5 : arL (g 5) tx) (h6 : f 6 = nI tx.length) : CT G yX3_readsAll cX3_readsAll 1 none (rmL 3 0 0) [.ref m] h (fun v h' => v = none ∧ ∃ f' s9, MRep G h' m A f' hs (va_up g 9 s9) ∧ Mto h h' m ∧ f' 8 = bI (rdA tx).1 ∧ f' 7 = nI (rdA tx).2.1 ∧ f' 10 = nI (rdA tx).2.2.length ∧ arL s9 (rdA tx).2.2 ∧ f' 0 = f 0 ∧ f' 4 = f 4 ∧ f' 6 = f 6) noX := by
  refine CT_of [some (.ref m)] (by decide +kernel) rfl (Nat.le_of_ble_eq_true rfl) (fun X hC hF hE => ?_)
  have ht := htx.1
  have loop : ∀ (n : Nat) (w : Bool) (p : Nat) (bs : List Nat) (h1 : PH) (f1 : Nat → Int32) (s9 : Nat → Int32), p ≤ tx.length → (w = true → tx.length < n + p) → BS bs → MRep G h1 m A f1 hs (va_up g 9 s9) → Mto h h1 m → f1 8 = bI w → f1 7 = nI p → f1 10 = nI bs.length → arL s9 bs → f1 0 = f 0 → f1 4 = f 4 → f1 6 = f 6 → rdA tx = rdL tx n (w, p, bs) → Go X G h1 0 0 14 [some (.ref m)] [] := by
    refine lpC (fun n _ _ => n) (fun n w p ih bs h1 f1 s9 hp hn hbs hM1 ht1 k8 k7 k10 k9 k0 k4 k6 he => ?_)
    have done : rdL tx n (w, p, bs) = (w, p, bs) → Go X G h1 0 0 94 [some (.ref m)] [] := by
      intro hz
      refine go_vret hC hF dX3_readsAll_94 rfl ?_
      rw [he, hz]
      exact ⟨rfl, f1, s9, hM1, ht1, k8, k7, k10, k9, k0, k4, k6⟩
    have k6' : f1 6 = nI tx.length := by rw [k6]; exact h6
    refine go_aload_n hC dX3_readsAll_14 rfl ?_
    refine go_get hC kX3 hM1.1 8 q1760 dX3_readsAll_15 rfl (by decide) (Or.inl rfl) ?_
    refine go_B_eq hC 94 dX3_readsAll_18 (by decide) k8 (fun c18 => ?_) (fun c18 => ?_)
    · refine done ?_
      cases n with
      | zero => rfl
      | succ n => show ite _ _ _ = _; rw [if_neg (fun z => absurd (c18.symm.trans z.1) (by decide))]
    · refine go_aload_n hC dX3_readsAll_21 rfl ?_
      refine go_get hC kX3 hM1.1 7 q1759 dX3_readsAll_22 rfl (by decide) (Or.inl rfl) ?_
      refine go_aload_n hC dX3_readsAll_25 rfl ?_
      refine go_get hC kX3 hM1.1 6 q1758 dX3_readsAll_26 rfl (by decide) (Or.inl rfl) ?_
      refine go_N_ge hC 94 dX3_readsAll_29 (by decide) k7 k6' (by omega) (by omega) (fun c29 => ?_) (fun c29 => ?_)
      · refine done ?_
        cases n with
        | zero => rfl
        | succ n => show ite _ _ _ = _; rw [if_neg (fun z => absurd z.2 (Nat.not_lt.mpr c29))]
      · cases n with
        | zero => exact absurd (hn c18) (by omega)
        | succ n =>
          have hn := hn c18
          have hcp := ch_lt htx p
          have hbl := hbs.1
          have hu1 : rdL tx (n + 1) (w, p, bs) = if ch tx p = 44 ∧ bs.length < 6 then rdL tx n (rdN tx (p + 1) bs) else (false, p, bs) := by
            show ite _ _ _ = _; rw [if_pos ⟨c18, c29⟩]
          have no : ¬ (ch tx p = 44 ∧ bs.length < 6) → Go X G h1 0 0 55 [some (.ref m)] [.ref m] := by
            intro hz
            have hu2 : rdL tx (n + 1) (w, p, bs) = (false, p, bs) := by rw [hu1, if_neg hz]
            have hM2 : MRep G (hu h1 m (m, 0) (ob 6 ((mfs A f1 hs).set 8 (.int 0)))) m A (upd f1 8 0) hs (va_up g 9 s9) := hM1.uo rfl
            have ht2 : Mto h (hu h1 m (m, 0) (ob 6 ((mfs A f1 hs).set 8 (.int 0)))) m := ht1.st hM1.1
            have hM3 : MRep G (hu (hu h1 m (m, 0) (ob 6 ((mfs A f1 hs).set 8 (.int 0)))) m (m, 0) (ob 6 ((mfs A (upd f1 8 0) hs).set 7 (.int (f1 7 + 0))))) m A (upd (upd f1 8 0) 7 (f1 7 + 0)) hs (va_up g 9 s9) := hM2.uo rfl
            have ht3 : Mto h (hu (hu h1 m (m, 0) (ob 6 ((mfs A f1 hs).set 8 (.int 0)))) m (m, 0) (ob 6 ((mfs A (upd f1 8 0) hs).set 7 (.int (f1 7 + 0))))) m := ht2.st hM2.1
            have e7 : f1 7 + 0 = nI p := by rw [k7]; exact Int32.add_zero _
            refine go_iconst hC (0) dX3_readsAll_55 (by decide) ?_
            refine go_put hC kX3 hM1.1 8 q1760 dX3_readsAll_56 (by decide) (Nat.le_of_ble_eq_true rfl) (Or.inl rfl) rfl rfl rfl ?_
            refine go_aload_n hC dX3_readsAll_59 rfl ?_
            refine go_dup hC dX3_readsAll_60 rfl ?_
            refine go_get hC kX3 hM2.1 7 q1759 dX3_readsAll_61 rfl (by decide) (Or.inl rfl) ?_
            refine go_aload_n hC dX3_readsAll_64 rfl ?_
            refine go_get hC kX3 hM2.1 8 q1760 dX3_readsAll_65 rfl (by decide) (Or.inl rfl) ?_
            refine go_B_eq hC 75 dX3_readsAll_68 (by decide) (show upd f1 8 0 8 = bI false from rfl) (fun c68 => ?_) (fun z => absurd z (by decide))
            refine go_iconst hC (0) dX3_readsAll_75 (by decide) ?_
            refine go_iadd hC dX3_readsAll_76 ?_
            refine go_put hC kX3 hM2.1 7 q1759 dX3_readsAll_77 (by decide) (Nat.le_of_ble_eq_true rfl) (Or.inl rfl) rfl rfl rfl ?_
            refine go_aload_n hC dX3_readsAll_80 rfl ?_
            refine go_get hC kX3 hM3.1 8 q1760 dX3_readsAll_81 rfl (by decide) (Or.inl rfl) ?_
            refine go_B_eq hC 14 dX3_readsAll_84 (by decide) (show upd (upd f1 8 0) 7 (f1 7 + 0) 8 = bI false from rfl) (fun c84 => ?_) (fun z => absurd z (by decide))
            refine ih n false p (Nat.lt_succ_self _) bs _ _ s9 hp ?_ hbs hM3 ht3 rfl e7 k10 k9 k0 k4 k6 ?_
            · exact fun z => absurd z (by decide)
            · rw [he, hu2]
              cases n with
              | zero => rfl
              | succ n => show _ = ite _ _ _; rw [if_neg (fun z => absurd (show false = true from z.1) (by decide))]
          have k6'' : tx.length ≤ 60 := ht
          refine go_aload_n hC dX3_readsAll_32 rfl ?_
          refine go_aload_n hC dX3_readsAll_33 rfl ?_
          refine go_callV0 hC (c_X3_sign hM1 tx p htx h5 k6' k7 hp) (lw_V q1921 q1923 qs50 q83 q1924) hM1.1 rfl dX3_readsAll_34 0 rfl (by decide +kernel) rfl ⟨Nat.le_of_ble_eq_true rfl, Nat.le_of_ble_eq_true rfl⟩ (Nat.le_of_ble_eq_true rfl) ⟨rfl, rfl⟩ ?_
          rintro _ _ ⟨rfl, rfl⟩
          refine go_bipush hC (nI 44) dX3_readsAll_37 (by decide) ?_
          refine go_N_ne hC 55 dX3_readsAll_39 (by decide) rfl rfl (by omega) (by omega) (fun c39 => ?_) (fun c39 => ?_)
          · exact no (fun z => c39 z.1)
          · refine go_aload_n hC dX3_readsAll_42 rfl ?_
            refine go_get hC kX3 hM1.1 10 q1762 dX3_readsAll_43 rfl (by decide) (Or.inl rfl) ?_
            refine go_bipush hC (nI 6) dX3_readsAll_46 (by decide) ?_
            refine go_N_ge hC 55 dX3_readsAll_48 (by decide) k10 rfl (by omega) (by omega) (fun c48 => ?_) (fun c48 => ?_)
            · exact no (fun z => absurd z.2 (by omega))
            · have hM2 : MRep G (hu h1 m (m, 0) (ob 6 ((mfs A f1 hs).set 8 (.int 1)))) m A (upd f1 8 1) hs (va_up g 9 s9) := hM1.uo rfl
              have ht2 : Mto h (hu h1 m (m, 0) (ob 6 ((mfs A f1 hs).set 8 (.int 1)))) m := ht1.st hM1.1
              have hM3 : MRep G (hu (hu h1 m (m, 0) (ob 6 ((mfs A f1 hs).set 8 (.int 1)))) m (m, 0) (ob 6 ((mfs A (upd f1 8 1) hs).set 7 (.int (f1 7 + 1))))) m A (upd (upd f1 8 1) 7 (f1 7 + 1)) hs (va_up g 9 s9) := hM2.uo rfl
              have ht3 : Mto h (hu (hu h1 m (m, 0) (ob 6 ((mfs A f1 hs).set 8 (.int 1)))) m (m, 0) (ob 6 ((mfs A (upd f1 8 1) hs).set 7 (.int (f1 7 + 1))))) m := ht2.st hM2.1
              have e7 : f1 7 + 1 = nI (p + 1) := by rw [k7, nI_1]
              obtain ⟨o1, o2, o3, o4, o5⟩ := rdN_ok tx (p + 1) bs c29 hbs.2.1 hbs.2.2
              refine go_iconst hC (1) dX3_readsAll_51 (by decide) ?_
              refine go_goto hC 56 dX3_readsAll_52 (by decide) ?_
              refine go_put hC kX3 hM1.1 8 q1760 dX3_readsAll_56 (by decide) (Nat.le_of_ble_eq_true rfl) (Or.inl rfl) rfl rfl rfl ?_
              refine go_aload_n hC dX3_readsAll_59 rfl ?_
              refine go_dup hC dX3_readsAll_60 rfl ?_
              refine go_get hC kX3 hM2.1 7 q1759 dX3_readsAll_61 rfl (by decide) (Or.inl rfl) ?_
              refine go_aload_n hC dX3_readsAll_64 rfl ?_
              refine go_get hC kX3 hM2.1 8 q1760 dX3_readsAll_65 rfl (by decide) (Or.inl rfl) ?_
              refine go_B_eq hC 75 dX3_readsAll_68 (by decide) (show upd f1 8 1 8 = bI true from rfl) (fun z => absurd z (by decide)) (fun c68 => ?_)
              refine go_iconst hC (1) dX3_readsAll_71 (by decide) ?_
              refine go_goto hC 76 dX3_readsAll_72 (by decide) ?_
              refine go_iadd hC dX3_readsAll_76 ?_
              refine go_put hC kX3 hM2.1 7 q1759 dX3_readsAll_77 (by decide) (Nat.le_of_ble_eq_true rfl) (Or.inl rfl) rfl rfl rfl ?_
              refine go_aload_n hC dX3_readsAll_80 rfl ?_
              refine go_get hC kX3 hM3.1 8 q1760 dX3_readsAll_81 rfl (by decide) (Or.inl rfl) ?_
              refine go_B_eq hC 14 dX3_readsAll_84 (by decide) (show upd (upd f1 8 1) 7 (f1 7 + 1) 8 = bI true from rfl) (fun z => absurd z (by decide)) (fun c84 => ?_)
              refine go_aload_n hC dX3_readsAll_87 rfl ?_
              refine go_callV0 hC (c_X3_readsNumber hM3 tx bs (p + 1) htx h5 k6' e7 c29 ⟨k9, k10, hbl⟩ c48 hbs.2.1) (lw_V q1917 q1919 qs49 q83 q1920) hM3.1 rfl dX3_readsAll_88 0 rfl (by decide +kernel) rfl ⟨Nat.le_of_ble_eq_true rfl, Nat.le_of_ble_eq_true rfl⟩ (Nat.le_of_ble_eq_true rfl) ⟨rfl, rfl⟩ ?_
              rintro _ h4 ⟨rfl, f4, s4, hM4, ht4, j8, j7, j10, j9, j0, j4, j6⟩
              refine go_goto hC 14 dX3_readsAll_91 (by decide) ?_
              rw [bx_uu] at hM4
              exact ih n _ _ (Nat.lt_succ_self _) _ h4 f4 s4 o1 (fun _ => by omega) ⟨by omega, o4, o5⟩ hM4 (ht3.tr ht4) j8 j7 j10 j9 (j0.trans k0) (j4.trans k4) (j6.trans k6) (by rw [he, hu1, if_pos ⟨c39, c48⟩])
  have hM1 : MRep G (hu h m (m, 0) (ob 6 ((mfs A f hs).set 7 (.int 0)))) m A (upd f 7 0) hs g := hM.uo rfl
  have ht1 : Mto h (hu h m (m, 0) (ob 6 ((mfs A f hs).set 7 (.int 0)))) m := Mto.rf.st hM.1
  have hM2 : MRep G (hu (hu h m (m, 0) (ob 6 ((mfs A f hs).set 7 (.int 0)))) m (m, 0) (ob 6 ((mfs A (upd f 7 0) hs).set 10 (.int 0)))) m A (upd (upd f 7 0) 10 0) hs g := hM1.uo rfl
  have ht2 : Mto h (hu (hu h m (m, 0) (ob 6 ((mfs A f hs).set 7 (.int 0)))) m (m, 0) (ob 6 ((mfs A (upd f 7 0) hs).set 10 (.int 0)))) m := ht1.st hM1.1
  obtain ⟨o1, o2, o3, o4, o5⟩ := rdN_ok tx 0 [] (Nat.zero_le _) (fun x hx => by cases hx) List.nodup_nil
  refine go_aload_n hC dX3_readsAll_0 rfl ?_
  refine go_iconst hC (0) dX3_readsAll_1 (by decide) ?_
  refine go_put hC kX3 hM.1 7 q1759 dX3_readsAll_2 (by decide) (Nat.le_of_ble_eq_true rfl) (Or.inl rfl) rfl rfl rfl ?_
  refine go_aload_n hC dX3_readsAll_5 rfl ?_
  refine go_iconst hC (0) dX3_readsAll_6 (by decide) ?_
  refine go_put hC kX3 hM1.1 10 q1762 dX3_readsAll_7 (by decide) (Nat.le_of_ble_eq_true rfl) (Or.inl rfl) rfl rfl rfl ?_
  refine go_aload_n hC dX3_readsAll_10 rfl ?_
  refine go_callV0 hC (c_X3_readsNumber hM2 tx [] 0 htx h5 h6 rfl (Nat.zero_le _) ⟨(fun j x hx => by simp at hx), rfl, by simp⟩ (by simp) (fun x hx => by cases hx)) (lw_V q1917 q1919 qs49 q83 q1920) hM2.1 rfl dX3_readsAll_11 0 rfl (by decide +kernel) rfl ⟨Nat.le_of_ble_eq_true rfl, Nat.le_of_ble_eq_true rfl⟩ (Nat.le_of_ble_eq_true rfl) ⟨rfl, rfl⟩ ?_
  rintro _ h4 ⟨rfl, f4, s4, hM4, ht4, j8, j7, j10, j9, j0, j4, j6⟩
  exact loop (tx.length + 1) _ _ _ h4 f4 s4 o1 (fun _ => by omega) ⟨by simp at o3; omega, o4, o5⟩ hM4 (ht2.tr ht4) j8 j7 j10 j9 j0 j4 j6 rfl
end M6
