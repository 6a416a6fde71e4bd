/-! PLAIN LAW: the steps of an order by loads are those of picking -/
set_option maxRecDepth 100000
theorem find_eraseP {p q : It → Bool} : ∀ {l : List It}, (∀ y, p y = true → q y = false) → (l.eraseP p).find? q = l.find? q
  | [], _ => rfl
  | y :: l, h => by
    by_cases hp : p y = true
    · rw [List.eraseP_cons_of_pos hp, List.find?_cons, h y hp]
    · rw [List.eraseP_cons_of_neg hp, List.find?_cons, List.find?_cons, find_eraseP h]
theorem itm_pck_ne {t : St} {x z : Int32} (h : z ≠ x) : itm (sI (pck t x)) z = itm (sI t) z := by
  unfold pck
  cases hi : itm (sI t) x with
  | none => rfl
  | some y =>
    show List.find? (isX z) (List.eraseP (isX x) (sI t)) = _
    refine find_eraseP (fun w hw => ?_)
    unfold isX at hw ⊢
    have e : nI w.1 = x := by simpa using hw
    rw [e]
    exact beq_false_of_ne (fun q => h q.symm)
/-- all numbers are there, none in a drawer that is jammed -/
def AllIn (t : St) (xs : List Int32) : Prop := ∀ x ∈ xs, ∃ y, itm (sI t) x = some y ∧ sJ t y.2.2 = false
theorem sJ_pck (t : St) (x : Int32) : sJ (pck t x) = sJ t := by
  unfold pck
  cases itm (sI t) x <;> rfl
theorem reason_0 {t : St} {x : Int32} (h : reason t x = 0) : ∃ y, itm (sI t) x = some y ∧ sJ t y.2.2 = false ∧ way t y.2.2 ≠ 99 := by
  obtain ⟨y, hy⟩ := reason0 h
  unfold reason at h
  rw [hy] at h
  have h2 : (if sJ t y.2.2 = true then (2 : Int32) else if way t y.2.2 = 99 then 3 else 0) = 0 := h
  refine ⟨y, hy, ?_, fun w => ?_⟩
  · cases hj : sJ t y.2.2 with
    | false => rfl
    | true => rw [hj, if_pos rfl] at h2; exact absurd h2 (by decide)
  · rw [if_pos w] at h2
    split at h2
    · exact absurd h2 (by decide)
    · exact absurd h2 (by decide)
theorem pby_all {c : Nat} (hc : c < 2 ^ 31) : ∀ (xs : List Int32) (t : St), WF c t → (pby t xs).1 = xs.length → AllIn t xs
  | [], t, _, _ => fun x hx => by cases hx
  | x :: r, t, hw, h => by
    by_cases hr : reason t x = 0
    · rw [pby_c hr] at h
      obtain ⟨y, hy, hj, -⟩ := reason_0 hr
      have ih := pby_all hc r (pck t x) (WF_pck hw x) (by simpa using h)
      intro z hz
      rcases List.mem_cons.mp hz with e | e
      · rw [e]; exact ⟨y, hy, hj⟩
      · obtain ⟨w, hw1, hw2⟩ := ih z e
        by_cases q : z = x
        · rw [q, itm_pck hw hc] at hw1; cases hw1
        · rw [itm_pck_ne q] at hw1
          rw [sJ_pck] at hw2
          exact ⟨w, hw1, hw2⟩
    · rw [pby_n hr] at h
      simp at h
/-- the steps of picking these items one behind the other, by loads: whether none is refused, how many -/
def lsR (S : Nat → Int32) : List It → (Nat → Int32) → Nat → Int32 → Bool × Int32
  | [], _, _, n => (true, n)
  | y :: r, L, w, n => if wayR L S w y.2.2 = 99 then (false, n + absI (wayR L S w y.2.2)) else lsR S r (upd L y.2.2 (L y.2.2 - y.2.1)) y.2.2 (n + absI (wayR L S w y.2.2))
theorem sN_pck {t : St} {x : Int32} {y : It} (hy : itm (sI t) x = some y) : sN (pck t x) 4 = sN t 4 + absI (way t y.2.2) ∧ sN (pck t x) 0 = sN t 0 ∧ sW (pck t x) = y.2.2 := by
  unfold pck
  rw [hy]
  exact ⟨rfl, rfl, rfl⟩
theorem lsR_pby {c : Nat} (hc : c ≤ 64) (S : Nat → Int32) : ∀ (xs : List Int32) (ys : List It) (t : St) (L : Nat → Int32) (n : Int32), WF c t → xs.Nodup → xs.map (fun x => itm (sI t) x) = ys.map some → (∀ y ∈ ys, sJ t y.2.2 = false) → (∀ o, o < 12 → L o = ld (sI t) o) → S 0 = sN t 0 → ((pby t xs).1 = xs.length ↔ (lsR S ys L (sW t) n).1 = true) ∧ ((pby t xs).1 = xs.length → (lsR S ys L (sW t) n).2 = n + (sN (pby t xs).2 4 - sN t 4))
  | [], ys, t, L, n, _, _, hm, _, _, _ => by
    cases ys with
    | cons y r => cases hm
    | nil => exact ⟨⟨fun _ => rfl, fun _ => rfl⟩, fun _ => by show n = n + (sN t 4 - sN t 4); grind⟩
  | x :: r, ys, t, L, n, hw, hnd, hm, hj, hL, hS => by
    cases ys with
    | nil => cases hm
    | cons y ys =>
      rw [List.map_cons, List.map_cons] at hm
      have hy : itm (sI t) x = some y := (List.cons.inj hm).1
      have hm2 := (List.cons.inj hm).2
      rw [List.nodup_cons] at hnd
      have hwy : wayR L S (sW t) y.2.2 = way t y.2.2 := by
        rw [wayR_eq hw.d.2 hL]
        unfold way
        rw [hS]
      have hre : reason t x = 0 ↔ ¬ way t y.2.2 = 99 := by
        unfold reason
        rw [hy]
        show (if sJ t y.2.2 = true then (2 : Int32) else if way t y.2.2 = 99 then 3 else 0) = 0 ↔ _
        rw [hj y List.mem_cons_self, if_neg (by decide)]
        by_cases q : way t y.2.2 = 99
        · rw [if_pos q]; exact ⟨fun z => absurd z (by decide), fun z => absurd q z⟩
        · rw [if_neg q]; exact ⟨fun _ => q, fun _ => rfl⟩
      unfold lsR
      rw [hwy]
      by_cases q : way t y.2.2 = 99
      · rw [if_pos q, pby_n (fun z => hre.mp z q)]
        refine ⟨⟨fun z => absurd z (by simp), fun z => absurd (show false = true from z) (by decide)⟩, fun z => absurd z (by simp)⟩
      · have hr0 := hre.mpr q
        rw [if_neg q, pby_c hr0]
        obtain ⟨s4, s0, sw⟩ := sN_pck hy
        obtain ⟨i, hp, hi, hx⟩ := itm_pos hy
        have hse : sI (pck t x) = (sI t).eraseIdx i := by
          unfold pck
          rw [hy]
          exact pos_erase hp
        have ih := lsR_pby hc S r ys (pck t x) (upd L y.2.2 (L y.2.2 - y.2.1)) (n + absI (way t y.2.2)) (WF_pck hw x) hnd.2 (by
          rw [← hm2]
          refine List.map_congr_left (fun z hz => itm_pck_ne (fun e => hnd.1 (by rw [← e]; exact hz)))) (fun z hz => by rw [sJ_pck]; exact hj z (List.mem_cons_of_mem _ hz)) (fun o ho => by
          rw [hse, ld_erase hi]
          by_cases e : o = y.2.2
          · rw [e, pk_us, if_pos rfl, hL _ (hw.d.it hi)]
          · rw [pk_un e, if_neg (fun z => e z.symm), hL o ho]; grind) (by rw [s0]; exact hS)
        rw [sw] at ih
        refine ⟨⟨fun z => ih.1.mp (by simpa using z), fun z => by have := ih.1.mpr z; simp [this]⟩, fun z => ?_⟩
        have h2 := ih.2 (by simpa using z)
        rw [h2, s4]
        show _ = n + (sN (pby (pck t x) r).2 4 - sN t 4)
        grind
