/-! PLAIN LAW: the imbalance by loads is the one by items -/
set_option maxRecDepth 100000
theorem sgn_add (p : Nat) (x y : Int32) : sgn p (x + y) = sgn p x + sgn p y := by
  unfold sgn
  repeat' split
  all_goals grind
theorem sum_add (f g : Nat → Int32) : ∀ (l : List Nat) (a b : Int32), l.foldl (fun a o => a + (f o + g o)) (a + b) = l.foldl (fun a o => a + f o) a + l.foldl (fun a o => a + g o) b
  | [], a, b => rfl
  | x :: l, a, b => by
    rw [List.foldl_cons, List.foldl_cons, List.foldl_cons, ← sum_add f g l (a + f x) (b + g x)]
    congr 1
    grind
theorem sum_one (d : Nat) (hd : d < 12) (v : Int32) : (List.range' 0 12).foldl (fun a o => a + (if o = d then v else 0)) 0 = v := by
  rcases (show d = 0 ∨ d = 1 ∨ d = 2 ∨ d = 3 ∨ d = 4 ∨ d = 5 ∨ d = 6 ∨ d = 7 ∨ d = 8 ∨ d = 9 ∨ d = 10 ∨ d = 11 by omega) with e | e | e | e | e | e | e | e | e | e | e | e <;> subst e <;> simp [List.range']
theorem sum_cg (f g : Nat → Int32) : ∀ (l : List Nat) (a : Int32), (∀ o ∈ l, f o = g o) → l.foldl (fun a o => a + f o) a = l.foldl (fun a o => a + g o) a
  | [], a, _ => rfl
  | x :: l, a, h => by
    rw [List.foldl_cons, List.foldl_cons, h x List.mem_cons_self]
    exact sum_cg f g l _ (fun o ho => h o (List.mem_cons_of_mem _ ho))
theorem smL_add (L : Nat → Int32) (d w : Nat) (hd : d < 12) (v : Int32) : smL (addL L d v) w = smL L w + sgn (plc d w) v := by
  unfold smL addL
  rw [sum_cg _ (fun o => sgn (plc o w) (L o) + (if o = d then sgn (plc d w) v else 0)) _ _ (fun o _ => by
    rw [sgn_add]
    by_cases e : o = d
    · rw [if_pos e, if_pos e, e]
    · rw [if_neg e, if_neg e]
      congr 1
      unfold sgn
      repeat' split
      all_goals rfl)]
  have := sum_add (fun o => sgn (plc o w) (L o)) (fun o => if o = d then sgn (plc d w) v else 0) (List.range' 0 12) 0 0
  rw [show (0 : Int32) + 0 = 0 from rfl] at this
  rw [this, sum_one d hd]
theorem smL_cg {L L' : Nat → Int32} (w : Nat) (h : ∀ o, o < 12 → L o = L' o) : smL L w = smL L' w := by
  unfold smL
  refine sum_cg _ _ _ _ (fun o ho => ?_)
  have : o < 12 := by have := List.mem_range'_1.mp ho; omega
  rw [h o this]
theorem smL_fold (w : Nat) : ∀ (l : List It) (A : Nat → Int32), (∀ x ∈ l, x.2.2 < 12) → smL (fun d => l.foldl (ldf d) (A d)) w = l.foldl (sgf w) (smL A w)
  | [], A, _ => by
    rw [List.foldl_nil]
    exact smL_cg w (fun o _ => rfl)
  | x :: l, A, h => by
    have ih := smL_fold w l (addL A x.2.2 x.2.1) (fun y hy => h y (List.mem_cons_of_mem _ hy))
    rw [smL_add _ _ _ (h x List.mem_cons_self)] at ih
    rw [List.foldl_cons, show sgf w (smL A w) x = smL A w + sgn (plc x.2.2 w) x.2.1 from rfl, ← ih]
    refine smL_cg w (fun o _ => ?_)
    show List.foldl (ldf o) (ldf o (A o) x) l = List.foldl (ldf o) (A o + if o = x.2.2 then x.2.1 else 0) l
    have : ldf o (A o) x = A o + if o = x.2.2 then x.2.1 else 0 := by
      unfold ldf
      by_cases e : x.2.2 = o
      · rw [if_pos e, if_pos e.symm]
      · rw [if_neg e, if_neg (fun z => e z.symm)]
    rw [this]
theorem smL_0 (w : Nat) : smL (fun _ => 0) w = 0 := by
  unfold smL
  have : ∀ o, sgn (plc o w) 0 = 0 := fun o => by unfold sgn; simp
  simp [List.range', this]
theorem imb_ld {l : List It} (h : ∀ x ∈ l, x.2.2 < 12) (w : Nat) : imb l w = absI (smL (ld l) w) := by
  have := smL_fold w l (fun _ => 0) h
  rw [smL_0] at this
  unfold imb
  rw [← this]
  rfl
/-- the imbalance by loads, as the ring counts it -/
def imbR (L : Nat → Int32) (w : Nat) : Int32 := absI ((List.range' 1 5).foldl (fun a k => a + (L ((w + k) % 12) - L ((w + 6 + k) % 12))) 0)
theorem imbR_eq (L : Nat → Int32) (w : Nat) (hw : w < 12) : imbR L w = absI (smL L w) := by
  unfold imbR smL
  congr 1
  rcases (show w = 0 ∨ w = 1 ∨ w = 2 ∨ w = 3 ∨ w = 4 ∨ w = 5 ∨ w = 6 ∨ w = 7 ∨ w = 8 ∨ w = 9 ∨ w = 10 ∨ w = 11 by omega) with e | e | e | e | e | e | e | e | e | e | e | e <;> subst e <;> simp [List.range', sgn, plc] <;> grind
theorem imbR_imb {l : List It} {L : Nat → Int32} (h : ∀ x ∈ l, x.2.2 < 12) (hL : ∀ o, o < 12 → L o = ld l o) {w : Nat} (hw : w < 12) : imbR L w = imb l w := by
  rw [imbR_eq L w hw, imb_ld h, smL_cg w hL]
