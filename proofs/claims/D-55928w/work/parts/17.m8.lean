set_option maxRecDepth 100000
/-- what an order leaves as it was: the text, the line, the undo rows .. -/
def mFr (ρ σ : mSt) : Prop := (∀ f ∈ [1, 8, 19, 20, 21, 22, 23, 24], σ.1 f = ρ.1 f) ∧ ∀ j ∈ [10, 11, 12, 13, 17, 18], σ.2 j = ρ.2 j
theorem Fr_rf {ρ : mSt} : mFr ρ ρ := ⟨fun _ _ => rfl, fun _ _ => rfl⟩
theorem Fr_setF {ρ σ : mSt} {f : Nat} {x : Int32} (hf : f ∉ [1, 8, 19, 20, 21, 22, 23, 24]) (h : mFr ρ σ) : mFr ρ (setF σ f x) :=
  ⟨fun g hg => by rw [setF_1, if_neg (fun (z : g = f) => hf (z ▸ hg))]; exact h.1 g hg, h.2⟩
theorem Fr_setA {ρ σ : mSt} {j q : Nat} {x : Int32} (hj : j ∉ [10, 11, 12, 13, 17, 18]) (h : mFr ρ σ) : mFr ρ (setA σ j q x) :=
  ⟨h.1, fun i hi => by rw [setA_2, if_neg (fun (z : i = j) => hj (z ▸ hi))]; exact h.2 i hi⟩
theorem Fr_putA {ρ σ : mSt} {j : Nat} {f : Nat → Int32} (hj : j ∉ [10, 11, 12, 13, 17, 18]) (h : mFr ρ σ) : mFr ρ (putA σ j f) :=
  ⟨h.1, fun i hi => by rw [putA_2, if_neg (fun (z : i = j) => hj (z ▸ hi))]; exact h.2 i hi⟩
theorem Fr_it {ρ : mSt} {f : Nat → mSt → mSt} (hf : ∀ i s, mFr ρ s → mFr ρ (f i s)) {s0 : mSt} (h : mFr ρ s0) : ∀ i, mFr ρ (iterN f s0 i) := by
  intro i
  induction i with
  | zero => exact h
  | succ i ih => exact hf _ _ ih
theorem Fr_it2 {α : Type} {ρ : mSt} {f : Nat → α × mSt → α × mSt} (hf : ∀ i s, mFr ρ s.2 → mFr ρ (f i s).2) {s0 : α × mSt} (h : mFr ρ s0.2) : ∀ i, mFr ρ (iterN f s0 i).2 := by
  intro i
  induction i with
  | zero => exact h
  | succ i ih => exact hf _ _ ih
theorem Fr_goes {ρ σ : mSt} {q : Nat} (h : mFr ρ σ) : mFr ρ (M_goes σ q) := by
  unfold M_goes
  exact Fr_setA (by decide) (Fr_it (fun i s hs => Fr_setA (by decide) hs) h _)
theorem Fr_B {ρ : mSt} {c : Prop} [Decidable c] {a b : mSt} (h1 : mFr ρ a) (h2 : mFr ρ b) : mFr ρ (if c then a else b) := by split <;> assumption
theorem Fr_B2 {ρ : mSt} {α : Type} {c : Prop} [Decidable c] {a b : α × mSt} (h1 : mFr ρ a.2) (h2 : mFr ρ b.2) : mFr ρ (if c then a else b).2 := by split <;> assumption
theorem Fr_fail {ρ σ : mSt} {code : Int32} (hFr : mFr ρ σ) : mFr ρ (M_fail σ code).2 := by
  unfold M_fail
  extract_lets +onlyGivenNames s2
  have h_s2 : mFr ρ s2 := by
    show mFr ρ (setF σ 0 code)
    (repeat (first | assumption | with_reducible apply Fr_goes | with_reducible apply Fr_setF (by decide) | with_reducible apply Fr_setA (by decide) | with_reducible apply Fr_B))
  clear_value s2
  show mFr ρ s2
  (repeat (first | assumption | with_reducible apply Fr_goes | with_reducible apply Fr_setF (by decide) | with_reducible apply Fr_setA (by decide) | with_reducible apply Fr_B))
theorem Fr_refuses {ρ σ : mSt} {b c : Int32} (hFr : mFr ρ σ) : mFr ρ (M_refuses σ b c).2 := by
  unfold M_refuses
  extract_lets +onlyGivenNames s2
  have h_s2 : mFr ρ s2 := by
    show mFr ρ (setF σ 2 b)
    (repeat (first | assumption | with_reducible apply Fr_goes | with_reducible apply Fr_fail | with_reducible apply Fr_setF (by decide) | with_reducible apply Fr_setA (by decide) | with_reducible apply Fr_B))
  clear_value s2
  extract_lets +onlyGivenNames s7
  have h_s7 : mFr ρ s7 := by
    show mFr ρ (setF s2 3 c)
    (repeat (first | assumption | with_reducible apply Fr_goes | with_reducible apply Fr_fail | with_reducible apply Fr_setF (by decide) | with_reducible apply Fr_setA (by decide) | with_reducible apply Fr_B))
  clear_value s7
  extract_lets +onlyGivenNames s12
  have h_s12 : mFr ρ s12 := by
    show mFr ρ (setF s7 4 0)
    (repeat (first | assumption | with_reducible apply Fr_goes | with_reducible apply Fr_fail | with_reducible apply Fr_setF (by decide) | with_reducible apply Fr_setA (by decide) | with_reducible apply Fr_B))
  clear_value s12
  extract_lets +onlyGivenNames s17
  have h_s17 : mFr ρ s17 := by
    show mFr ρ (setF s12 6 0)
    (repeat (first | assumption | with_reducible apply Fr_goes | with_reducible apply Fr_fail | with_reducible apply Fr_setF (by decide) | with_reducible apply Fr_setA (by decide) | with_reducible apply Fr_B))
  clear_value s17
  extract_lets +onlyGivenNames s24
  have h_s24 : mFr ρ s24 := by
    show mFr ρ ((M_fail s17 (-1014)).2)
    (repeat (first | assumption | with_reducible apply Fr_goes | with_reducible apply Fr_fail | with_reducible apply Fr_setF (by decide) | with_reducible apply Fr_setA (by decide) | with_reducible apply Fr_B))
  clear_value s24
  show mFr ρ s24
  (repeat (first | assumption | with_reducible apply Fr_goes | with_reducible apply Fr_fail | with_reducible apply Fr_setF (by decide) | with_reducible apply Fr_setA (by decide) | with_reducible apply Fr_B))
theorem Fr_refusesBurning {ρ σ : mSt} {s b c : Int32} (hFr : mFr ρ σ) : mFr ρ (M_refusesBurning σ s b c).2 := by
  unfold M_refusesBurning
  extract_lets +onlyGivenNames s3
  have h_s3 : mFr ρ s3 := by
    show mFr ρ ((M_refuses σ 4 s).2)
    (repeat (first | assumption | with_reducible apply Fr_goes | with_reducible apply Fr_fail | with_reducible apply Fr_refuses | with_reducible apply Fr_setF (by decide) | with_reducible apply Fr_setA (by decide) | with_reducible apply Fr_B))
  clear_value s3
  extract_lets +onlyGivenNames s10
  have h_s10 : mFr ρ s10 := by
    show mFr ρ (setF s3 4 b)
    (repeat (first | assumption | with_reducible apply Fr_goes | with_reducible apply Fr_fail | with_reducible apply Fr_refuses | with_reducible apply Fr_setF (by decide) | with_reducible apply Fr_setA (by decide) | with_reducible apply Fr_B))
  clear_value s10
  extract_lets +onlyGivenNames s15
  have h_s15 : mFr ρ s15 := by
    show mFr ρ (setF s10 5 c)
    (repeat (first | assumption | with_reducible apply Fr_goes | with_reducible apply Fr_fail | with_reducible apply Fr_refuses | with_reducible apply Fr_setF (by decide) | with_reducible apply Fr_setA (by decide) | with_reducible apply Fr_B))
  clear_value s15
  show mFr ρ s15
  (repeat (first | assumption | with_reducible apply Fr_goes | with_reducible apply Fr_fail | with_reducible apply Fr_refuses | with_reducible apply Fr_setF (by decide) | with_reducible apply Fr_setA (by decide) | with_reducible apply Fr_B))
theorem Fr_mk {ρ : mSt} {n : Nat} {h a b z : Int32} {s0 : mSt} (hh : mFr ρ s0) : mFr ρ (iterN (B_makes n h a b z) s0 8) := Fr_it (fun i s hs => Fr_setA (by decide) hs) hh _
theorem Fr_makes {ρ σ : mSt} {n : Nat} {h a b : Int32} (hFr : mFr ρ σ) : mFr ρ (M_makes σ n h a b).2 := by
  unfold M_makes
  refine Fr_B2 ?_ ?_
  · refine Fr_B2 ?_ ?_
    · extract_lets +onlyGivenNames s45
      have h_s45 : mFr ρ s45 := by
        show mFr ρ ((M_refuses σ 1 12).2)
        (repeat (first | assumption | with_reducible apply Fr_goes | with_reducible apply Fr_fail | with_reducible apply Fr_refuses | with_reducible apply Fr_refusesBurning | with_reducible apply Fr_mk | with_reducible apply Fr_setF (by decide) | with_reducible apply Fr_setA (by decide) | with_reducible apply Fr_B))
      clear_value s45
      show mFr ρ s45
      (repeat (first | assumption | with_reducible apply Fr_goes | with_reducible apply Fr_fail | with_reducible apply Fr_refuses | with_reducible apply Fr_refusesBurning | with_reducible apply Fr_mk | with_reducible apply Fr_setF (by decide) | with_reducible apply Fr_setA (by decide) | with_reducible apply Fr_B))
    · extract_lets +onlyGivenNames s52
      have h_s52 : mFr ρ s52 := by
        show mFr ρ ((iterN (B_makes n h a b (((M_tray σ n h) + a) + 1)) σ 8))
        (repeat (first | assumption | with_reducible apply Fr_goes | with_reducible apply Fr_fail | with_reducible apply Fr_refuses | with_reducible apply Fr_refusesBurning | with_reducible apply Fr_mk | with_reducible apply Fr_setF (by decide) | with_reducible apply Fr_setA (by decide) | with_reducible apply Fr_B))
      clear_value s52
      extract_lets +onlyGivenNames s89
      have h_s89 : mFr ρ s89 := by
        show mFr ρ (setA s52 9 (30 + 8 * n + 0) h)
        (repeat (first | assumption | with_reducible apply Fr_goes | with_reducible apply Fr_fail | with_reducible apply Fr_refuses | with_reducible apply Fr_refusesBurning | with_reducible apply Fr_mk | with_reducible apply Fr_setF (by decide) | with_reducible apply Fr_setA (by decide) | with_reducible apply Fr_B))
      clear_value s89
      extract_lets +onlyGivenNames s101
      have h_s101 : mFr ρ s101 := by
        show mFr ρ (setA s89 9 (30 + 8 * n + 1) a)
        (repeat (first | assumption | with_reducible apply Fr_goes | with_reducible apply Fr_fail | with_reducible apply Fr_refuses | with_reducible apply Fr_refusesBurning | with_reducible apply Fr_mk | with_reducible apply Fr_setF (by decide) | with_reducible apply Fr_setA (by decide) | with_reducible apply Fr_B))
      clear_value s101
      extract_lets +onlyGivenNames s113
      have h_s113 : mFr ρ s113 := by
        show mFr ρ (setA s101 9 (30 + 8 * n + 2) b)
        (repeat (first | assumption | with_reducible apply Fr_goes | with_reducible apply Fr_fail | with_reducible apply Fr_refuses | with_reducible apply Fr_refusesBurning | with_reducible apply Fr_mk | with_reducible apply Fr_setF (by decide) | with_reducible apply Fr_setA (by decide) | with_reducible apply Fr_B))
      clear_value s113
      extract_lets +onlyGivenNames s123
      have h_s123 : mFr ρ s123 := by
        show mFr ρ (setA s113 9 0 ((s113.2 9 0) + 1))
        (repeat (first | assumption | with_reducible apply Fr_goes | with_reducible apply Fr_fail | with_reducible apply Fr_refuses | with_reducible apply Fr_refusesBurning | with_reducible apply Fr_mk | with_reducible apply Fr_setF (by decide) | with_reducible apply Fr_setA (by decide) | with_reducible apply Fr_B))
      clear_value s123
      show mFr ρ s123
      (repeat (first | assumption | with_reducible apply Fr_goes | with_reducible apply Fr_fail | with_reducible apply Fr_refuses | with_reducible apply Fr_refusesBurning | with_reducible apply Fr_mk | with_reducible apply Fr_setF (by decide) | with_reducible apply Fr_setA (by decide) | with_reducible apply Fr_B))
  · extract_lets +onlyGivenNames s30
    have h_s30 : mFr ρ s30 := by
      show mFr ρ ((M_refuses σ 3 (((M_tray σ n h) + a) + 1)).2)
      (repeat (first | assumption | with_reducible apply Fr_goes | with_reducible apply Fr_fail | with_reducible apply Fr_refuses | with_reducible apply Fr_refusesBurning | with_reducible apply Fr_mk | with_reducible apply Fr_setF (by decide) | with_reducible apply Fr_setA (by decide) | with_reducible apply Fr_B))
    clear_value s30
    show mFr ρ s30
    (repeat (first | assumption | with_reducible apply Fr_goes | with_reducible apply Fr_fail | with_reducible apply Fr_refuses | with_reducible apply Fr_refusesBurning | with_reducible apply Fr_mk | with_reducible apply Fr_setF (by decide) | with_reducible apply Fr_setA (by decide) | with_reducible apply Fr_B))
theorem Fr_comes {ρ σ : mSt} {n : Nat} {h a b : Int32} (hFr : mFr ρ σ) : mFr ρ (M_comes σ n h a b).2 := by
  unfold M_comes
  refine Fr_B2 ?_ ?_
  · extract_lets +onlyGivenNames s11
    have h_s11 : mFr ρ s11 := by
      show mFr ρ ((M_fail σ (-1011)).2)
      (repeat (first | assumption | with_reducible apply Fr_goes | with_reducible apply Fr_fail | with_reducible apply Fr_refuses | with_reducible apply Fr_refusesBurning | with_reducible apply Fr_mk | with_reducible apply Fr_makes | with_reducible apply Fr_setF (by decide) | with_reducible apply Fr_setA (by decide) | with_reducible apply Fr_B))
    clear_value s11
    show mFr ρ s11
    (repeat (first | assumption | with_reducible apply Fr_goes | with_reducible apply Fr_fail | with_reducible apply Fr_refuses | with_reducible apply Fr_refusesBurning | with_reducible apply Fr_mk | with_reducible apply Fr_makes | with_reducible apply Fr_setF (by decide) | with_reducible apply Fr_setA (by decide) | with_reducible apply Fr_B))
  · refine Fr_B2 ?_ ?_
    · extract_lets +onlyGivenNames s27
      have h_s27 : mFr ρ s27 := by
        show mFr ρ ((M_fail σ (-1012)).2)
        (repeat (first | assumption | with_reducible apply Fr_goes | with_reducible apply Fr_fail | with_reducible apply Fr_refuses | with_reducible apply Fr_refusesBurning | with_reducible apply Fr_mk | with_reducible apply Fr_makes | with_reducible apply Fr_setF (by decide) | with_reducible apply Fr_setA (by decide) | with_reducible apply Fr_B))
      clear_value s27
      show mFr ρ s27
      (repeat (first | assumption | with_reducible apply Fr_goes | with_reducible apply Fr_fail | with_reducible apply Fr_refuses | with_reducible apply Fr_refusesBurning | with_reducible apply Fr_mk | with_reducible apply Fr_makes | with_reducible apply Fr_setF (by decide) | with_reducible apply Fr_setA (by decide) | with_reducible apply Fr_B))
    · extract_lets +onlyGivenNames k1
      clear_value k1
      refine Fr_B2 ?_ ?_
      · extract_lets +onlyGivenNames s42
        have h_s42 : mFr ρ s42 := by
          show mFr ρ ((M_refuses σ 2 (nI k1)).2)
          (repeat (first | assumption | with_reducible apply Fr_goes | with_reducible apply Fr_fail | with_reducible apply Fr_refuses | with_reducible apply Fr_refusesBurning | with_reducible apply Fr_mk | with_reducible apply Fr_makes | with_reducible apply Fr_setF (by decide) | with_reducible apply Fr_setA (by decide) | with_reducible apply Fr_B))
        clear_value s42
        show mFr ρ s42
        (repeat (first | assumption | with_reducible apply Fr_goes | with_reducible apply Fr_fail | with_reducible apply Fr_refuses | with_reducible apply Fr_refusesBurning | with_reducible apply Fr_mk | with_reducible apply Fr_makes | with_reducible apply Fr_setF (by decide) | with_reducible apply Fr_setA (by decide) | with_reducible apply Fr_B))
      · extract_lets +onlyGivenNames s55
        have h_s55 : mFr ρ s55 := by
          show mFr ρ (setA σ 9 1 ((σ.2 9 1) + a))
          (repeat (first | assumption | with_reducible apply Fr_goes | with_reducible apply Fr_fail | with_reducible apply Fr_refuses | with_reducible apply Fr_refusesBurning | with_reducible apply Fr_mk | with_reducible apply Fr_makes | with_reducible apply Fr_setF (by decide) | with_reducible apply Fr_setA (by decide) | with_reducible apply Fr_B))
        clear_value s55
        extract_lets +onlyGivenNames s60
        have h_s60 : mFr ρ s60 := by
          show mFr ρ ((M_makes s55 n (nI k1) a b).2)
          (repeat (first | assumption | with_reducible apply Fr_goes | with_reducible apply Fr_fail | with_reducible apply Fr_refuses | with_reducible apply Fr_refusesBurning | with_reducible apply Fr_mk | with_reducible apply Fr_makes | with_reducible apply Fr_setF (by decide) | with_reducible apply Fr_setA (by decide) | with_reducible apply Fr_B))
        clear_value s60
        show mFr ρ s60
        (repeat (first | assumption | with_reducible apply Fr_goes | with_reducible apply Fr_fail | with_reducible apply Fr_refuses | with_reducible apply Fr_refusesBurning | with_reducible apply Fr_mk | with_reducible apply Fr_makes | with_reducible apply Fr_setF (by decide) | with_reducible apply Fr_setA (by decide) | with_reducible apply Fr_B))
theorem Fr_burns {ρ σ : mSt} {n : Nat} {s a : Int32} (hFr : mFr ρ σ) : mFr ρ (M_burns σ n s a).2 := by
  unfold M_burns
  refine Fr_B2 ?_ ?_
  · extract_lets +onlyGivenNames s12
    have h_s12 : mFr ρ s12 := by
      show mFr ρ ((M_fail σ (-1011)).2)
      (repeat (first | assumption | with_reducible apply Fr_goes | with_reducible apply Fr_fail | with_reducible apply Fr_refuses | with_reducible apply Fr_refusesBurning | with_reducible apply Fr_mk | with_reducible apply Fr_makes | with_reducible apply Fr_comes | with_reducible apply Fr_setF (by decide) | with_reducible apply Fr_setA (by decide) | with_reducible apply Fr_B))
    clear_value s12
    show mFr ρ s12
    (repeat (first | assumption | with_reducible apply Fr_goes | with_reducible apply Fr_fail | with_reducible apply Fr_refuses | with_reducible apply Fr_refusesBurning | with_reducible apply Fr_mk | with_reducible apply Fr_makes | with_reducible apply Fr_comes | with_reducible apply Fr_setF (by decide) | with_reducible apply Fr_setA (by decide) | with_reducible apply Fr_B))
  · extract_lets +onlyGivenNames k1
    clear_value k1
    refine Fr_B2 ?_ ?_
    · extract_lets +onlyGivenNames s30
      have h_s30 : mFr ρ s30 := by
        show mFr ρ ((M_fail σ (-1012)).2)
        (repeat (first | assumption | with_reducible apply Fr_goes | with_reducible apply Fr_fail | with_reducible apply Fr_refuses | with_reducible apply Fr_refusesBurning | with_reducible apply Fr_mk | with_reducible apply Fr_makes | with_reducible apply Fr_comes | with_reducible apply Fr_setF (by decide) | with_reducible apply Fr_setA (by decide) | with_reducible apply Fr_B))
      clear_value s30
      show mFr ρ s30
      (repeat (first | assumption | with_reducible apply Fr_goes | with_reducible apply Fr_fail | with_reducible apply Fr_refuses | with_reducible apply Fr_refusesBurning | with_reducible apply Fr_mk | with_reducible apply Fr_makes | with_reducible apply Fr_comes | with_reducible apply Fr_setF (by decide) | with_reducible apply Fr_setA (by decide) | with_reducible apply Fr_B))
    · refine Fr_B2 ?_ ?_
      · refine Fr_B2 ?_ ?_
        · extract_lets +onlyGivenNames s153
          have h_s153 : mFr ρ s153 := by
            show mFr ρ (setA σ 9 (30 + 8 * k1 + 1) ((σ.2 9 (30 + 8 * k1 + 1)) - a))
            (repeat (first | assumption | with_reducible apply Fr_goes | with_reducible apply Fr_fail | with_reducible apply Fr_refuses | with_reducible apply Fr_refusesBurning | with_reducible apply Fr_mk | with_reducible apply Fr_makes | with_reducible apply Fr_comes | with_reducible apply Fr_setF (by decide) | with_reducible apply Fr_setA (by decide) | with_reducible apply Fr_B))
          clear_value s153
          extract_lets +onlyGivenNames s163
          have h_s163 : mFr ρ s163 := by
            show mFr ρ (setA s153 9 2 ((s153.2 9 2) + a))
            (repeat (first | assumption | with_reducible apply Fr_goes | with_reducible apply Fr_fail | with_reducible apply Fr_refuses | with_reducible apply Fr_refusesBurning | with_reducible apply Fr_mk | with_reducible apply Fr_makes | with_reducible apply Fr_comes | with_reducible apply Fr_setF (by decide) | with_reducible apply Fr_setA (by decide) | with_reducible apply Fr_B))
          clear_value s163
          extract_lets +onlyGivenNames s173
          have h_s173 : mFr ρ s173 := by
            show mFr ρ (setA s163 9 3 ((s163.2 9 3) + (a * (σ.2 9 (30 + 8 * k1 + 2)))))
            (repeat (first | assumption | with_reducible apply Fr_goes | with_reducible apply Fr_fail | with_reducible apply Fr_refuses | with_reducible apply Fr_refusesBurning | with_reducible apply Fr_mk | with_reducible apply Fr_makes | with_reducible apply Fr_comes | with_reducible apply Fr_setF (by decide) | with_reducible apply Fr_setA (by decide) | with_reducible apply Fr_B))
          clear_value s173
          extract_lets +onlyGivenNames s188
          have h_s188 : mFr ρ s188 := by
            show mFr ρ (setA s173 9 (30 + 8 * k1 + 7) ((s173.2 9 (30 + 8 * k1 + 7)) + (a * (σ.2 9 (30 + 8 * k1 + 2)))))
            (repeat (first | assumption | with_reducible apply Fr_goes | with_reducible apply Fr_fail | with_reducible apply Fr_refuses | with_reducible apply Fr_refusesBurning | with_reducible apply Fr_mk | with_reducible apply Fr_makes | with_reducible apply Fr_comes | with_reducible apply Fr_setF (by decide) | with_reducible apply Fr_setA (by decide) | with_reducible apply Fr_B))
          clear_value s188
          extract_lets +onlyGivenNames s203
          have h_s203 : mFr ρ s203 := by
            show mFr ρ (setA s188 9 (30 + 8 * k1 + 4) ((s188.2 9 (30 + 8 * k1 + 4)) - (if (a * (σ.2 9 (30 + 8 * k1 + 2))) ≤ (σ.2 9 (30 + 8 * k1 + 4)) then (a * (σ.2 9 (30 + 8 * k1 + 2))) else (σ.2 9 (30 + 8 * k1 + 4)))))
            (repeat (first | assumption | with_reducible apply Fr_goes | with_reducible apply Fr_fail | with_reducible apply Fr_refuses | with_reducible apply Fr_refusesBurning | with_reducible apply Fr_mk | with_reducible apply Fr_makes | with_reducible apply Fr_comes | with_reducible apply Fr_setF (by decide) | with_reducible apply Fr_setA (by decide) | with_reducible apply Fr_B))
          clear_value s203
          extract_lets +onlyGivenNames s214
          have h_s214 : mFr ρ s214 := by
            show mFr ρ (setA s203 9 4 ((s203.2 9 4) + (if (a * (σ.2 9 (30 + 8 * k1 + 2))) ≤ (σ.2 9 (30 + 8 * k1 + 4)) then (a * (σ.2 9 (30 + 8 * k1 + 2))) else (σ.2 9 (30 + 8 * k1 + 4)))))
            (repeat (first | assumption | with_reducible apply Fr_goes | with_reducible apply Fr_fail | with_reducible apply Fr_refuses | with_reducible apply Fr_refusesBurning | with_reducible apply Fr_mk | with_reducible apply Fr_makes | with_reducible apply Fr_comes | with_reducible apply Fr_setF (by decide) | with_reducible apply Fr_setA (by decide) | with_reducible apply Fr_B))
          clear_value s214
          extract_lets +onlyGivenNames s239
          have h_s239 : mFr ρ s239 := by
            show mFr ρ (if (s214.2 9 (30 + 8 * k1 + 4)) = 0 then (setA s214 9 (30 + 8 * k1 + 3) 0) else s214)
            (repeat (first | assumption | with_reducible apply Fr_goes | with_reducible apply Fr_fail | with_reducible apply Fr_refuses | with_reducible apply Fr_refusesBurning | with_reducible apply Fr_mk | with_reducible apply Fr_makes | with_reducible apply Fr_comes | with_reducible apply Fr_setF (by decide) | with_reducible apply Fr_setA (by decide) | with_reducible apply Fr_B))
          clear_value s239
          extract_lets +onlyGivenNames s257
          have h_s257 : mFr ρ s257 := by
            show mFr ρ (if (s239.2 9 (30 + 8 * k1 + 1)) = 0 then (M_goes s239 k1) else s239)
            (repeat (first | assumption | with_reducible apply Fr_goes | with_reducible apply Fr_fail | with_reducible apply Fr_refuses | with_reducible apply Fr_refusesBurning | with_reducible apply Fr_mk | with_reducible apply Fr_makes | with_reducible apply Fr_comes | with_reducible apply Fr_setF (by decide) | with_reducible apply Fr_setA (by decide) | with_reducible apply Fr_B))
          clear_value s257
          show mFr ρ s257
          (repeat (first | assumption | with_reducible apply Fr_goes | with_reducible apply Fr_fail | with_reducible apply Fr_refuses | with_reducible apply Fr_refusesBurning | with_reducible apply Fr_mk | with_reducible apply Fr_makes | with_reducible apply Fr_comes | with_reducible apply Fr_setF (by decide) | with_reducible apply Fr_setA (by decide) | with_reducible apply Fr_B))
        · extract_lets +onlyGivenNames s93
          have h_s93 : mFr ρ s93 := by
            show mFr ρ ((M_refusesBurning σ (nI k1) 6 (σ.2 9 (30 + 8 * k1 + 1))).2)
            (repeat (first | assumption | with_reducible apply Fr_goes | with_reducible apply Fr_fail | with_reducible apply Fr_refuses | with_reducible apply Fr_refusesBurning | with_reducible apply Fr_mk | with_reducible apply Fr_makes | with_reducible apply Fr_comes | with_reducible apply Fr_setF (by decide) | with_reducible apply Fr_setA (by decide) | with_reducible apply Fr_B))
          clear_value s93
          show mFr ρ s93
          (repeat (first | assumption | with_reducible apply Fr_goes | with_reducible apply Fr_fail | with_reducible apply Fr_refuses | with_reducible apply Fr_refusesBurning | with_reducible apply Fr_mk | with_reducible apply Fr_makes | with_reducible apply Fr_comes | with_reducible apply Fr_setF (by decide) | with_reducible apply Fr_setA (by decide) | with_reducible apply Fr_B))
      · extract_lets +onlyGivenNames s61
        have h_s61 : mFr ρ s61 := by
          show mFr ρ ((M_refusesBurning σ (nI k1) 5 (σ.2 9 (30 + 8 * k1 + 5))).2)
          (repeat (first | assumption | with_reducible apply Fr_goes | with_reducible apply Fr_fail | with_reducible apply Fr_refuses | with_reducible apply Fr_refusesBurning | with_reducible apply Fr_mk | with_reducible apply Fr_makes | with_reducible apply Fr_comes | with_reducible apply Fr_setF (by decide) | with_reducible apply Fr_setA (by decide) | with_reducible apply Fr_B))
        clear_value s61
        show mFr ρ s61
        (repeat (first | assumption | with_reducible apply Fr_goes | with_reducible apply Fr_fail | with_reducible apply Fr_refuses | with_reducible apply Fr_refusesBurning | with_reducible apply Fr_mk | with_reducible apply Fr_makes | with_reducible apply Fr_comes | with_reducible apply Fr_setF (by decide) | with_reducible apply Fr_setA (by decide) | with_reducible apply Fr_B))
theorem Fr_owes {ρ σ : mSt} {n : Nat} {s h a : Int32} (hFr : mFr ρ σ) : mFr ρ (M_owes σ n s h a).2 := by
  unfold M_owes
  refine Fr_B2 ?_ ?_
  · extract_lets +onlyGivenNames s19
    have h_s19 : mFr ρ s19 := by
      show mFr ρ ((M_fail σ (-1011)).2)
      (repeat (first | assumption | with_reducible apply Fr_goes | with_reducible apply Fr_fail | with_reducible apply Fr_refuses | with_reducible apply Fr_refusesBurning | with_reducible apply Fr_mk | with_reducible apply Fr_makes | with_reducible apply Fr_comes | with_reducible apply Fr_burns | with_reducible apply Fr_setF (by decide) | with_reducible apply Fr_setA (by decide) | with_reducible apply Fr_B))
    clear_value s19
    show mFr ρ s19
    (repeat (first | assumption | with_reducible apply Fr_goes | with_reducible apply Fr_fail | with_reducible apply Fr_refuses | with_reducible apply Fr_refusesBurning | with_reducible apply Fr_mk | with_reducible apply Fr_makes | with_reducible apply Fr_comes | with_reducible apply Fr_burns | with_reducible apply Fr_setF (by decide) | with_reducible apply Fr_setA (by decide) | with_reducible apply Fr_B))
  · refine Fr_B2 ?_ ?_
    · extract_lets +onlyGivenNames s19
      have h_s19 : mFr ρ s19 := by
        show mFr ρ ((M_fail σ (-1011)).2)
        (repeat (first | assumption | with_reducible apply Fr_goes | with_reducible apply Fr_fail | with_reducible apply Fr_refuses | with_reducible apply Fr_refusesBurning | with_reducible apply Fr_mk | with_reducible apply Fr_makes | with_reducible apply Fr_comes | with_reducible apply Fr_burns | with_reducible apply Fr_setF (by decide) | with_reducible apply Fr_setA (by decide) | with_reducible apply Fr_B))
      clear_value s19
      show mFr ρ s19
      (repeat (first | assumption | with_reducible apply Fr_goes | with_reducible apply Fr_fail | with_reducible apply Fr_refuses | with_reducible apply Fr_refusesBurning | with_reducible apply Fr_mk | with_reducible apply Fr_makes | with_reducible apply Fr_comes | with_reducible apply Fr_burns | with_reducible apply Fr_setF (by decide) | with_reducible apply Fr_setA (by decide) | with_reducible apply Fr_B))
    · extract_lets +onlyGivenNames k1
      clear_value k1
      extract_lets +onlyGivenNames k2
      clear_value k2
      refine Fr_B2 ?_ ?_
      · extract_lets +onlyGivenNames s37
        have h_s37 : mFr ρ s37 := by
          show mFr ρ ((M_fail σ (-1012)).2)
          (repeat (first | assumption | with_reducible apply Fr_goes | with_reducible apply Fr_fail | with_reducible apply Fr_refuses | with_reducible apply Fr_refusesBurning | with_reducible apply Fr_mk | with_reducible apply Fr_makes | with_reducible apply Fr_comes | with_reducible apply Fr_burns | with_reducible apply Fr_setF (by decide) | with_reducible apply Fr_setA (by decide) | with_reducible apply Fr_B))
        clear_value s37
        show mFr ρ s37
        (repeat (first | assumption | with_reducible apply Fr_goes | with_reducible apply Fr_fail | with_reducible apply Fr_refuses | with_reducible apply Fr_refusesBurning | with_reducible apply Fr_mk | with_reducible apply Fr_makes | with_reducible apply Fr_comes | with_reducible apply Fr_burns | with_reducible apply Fr_setF (by decide) | with_reducible apply Fr_setA (by decide) | with_reducible apply Fr_B))
      · refine Fr_B2 ?_ ?_
        · extract_lets +onlyGivenNames s52
          have h_s52 : mFr ρ s52 := by
            show mFr ρ ((M_refuses σ 2 (nI k2)).2)
            (repeat (first | assumption | with_reducible apply Fr_goes | with_reducible apply Fr_fail | with_reducible apply Fr_refuses | with_reducible apply Fr_refusesBurning | with_reducible apply Fr_mk | with_reducible apply Fr_makes | with_reducible apply Fr_comes | with_reducible apply Fr_burns | with_reducible apply Fr_setF (by decide) | with_reducible apply Fr_setA (by decide) | with_reducible apply Fr_B))
          clear_value s52
          show mFr ρ s52
          (repeat (first | assumption | with_reducible apply Fr_goes | with_reducible apply Fr_fail | with_reducible apply Fr_refuses | with_reducible apply Fr_refusesBurning | with_reducible apply Fr_mk | with_reducible apply Fr_makes | with_reducible apply Fr_comes | with_reducible apply Fr_burns | with_reducible apply Fr_setF (by decide) | with_reducible apply Fr_setA (by decide) | with_reducible apply Fr_B))
        · refine Fr_B2 ?_ ?_
          · extract_lets +onlyGivenNames s74
            have h_s74 : mFr ρ s74 := by
              show mFr ρ ((M_refuses σ 8 (nI k2)).2)
              (repeat (first | assumption | with_reducible apply Fr_goes | with_reducible apply Fr_fail | with_reducible apply Fr_refuses | with_reducible apply Fr_refusesBurning | with_reducible apply Fr_mk | with_reducible apply Fr_makes | with_reducible apply Fr_comes | with_reducible apply Fr_burns | with_reducible apply Fr_setF (by decide) | with_reducible apply Fr_setA (by decide) | with_reducible apply Fr_B))
            clear_value s74
            show mFr ρ s74
            (repeat (first | assumption | with_reducible apply Fr_goes | with_reducible apply Fr_fail | with_reducible apply Fr_refuses | with_reducible apply Fr_refusesBurning | with_reducible apply Fr_mk | with_reducible apply Fr_makes | with_reducible apply Fr_comes | with_reducible apply Fr_burns | with_reducible apply Fr_setF (by decide) | with_reducible apply Fr_setA (by decide) | with_reducible apply Fr_B))
          · refine Fr_B2 ?_ ?_
            · extract_lets +onlyGivenNames s122
              have h_s122 : mFr ρ s122 := by
                show mFr ρ (setA σ 9 (30 + 8 * k1 + 3) (nI (k2 + 1)))
                (repeat (first | assumption | with_reducible apply Fr_goes | with_reducible apply Fr_fail | with_reducible apply Fr_refuses | with_reducible apply Fr_refusesBurning | with_reducible apply Fr_mk | with_reducible apply Fr_makes | with_reducible apply Fr_comes | with_reducible apply Fr_burns | with_reducible apply Fr_setF (by decide) | with_reducible apply Fr_setA (by decide) | with_reducible apply Fr_B))
              clear_value s122
              extract_lets +onlyGivenNames s133
              have h_s133 : mFr ρ s133 := by
                show mFr ρ (setA s122 9 (30 + 8 * k1 + 4) a)
                (repeat (first | assumption | with_reducible apply Fr_goes | with_reducible apply Fr_fail | with_reducible apply Fr_refuses | with_reducible apply Fr_refusesBurning | with_reducible apply Fr_mk | with_reducible apply Fr_makes | with_reducible apply Fr_comes | with_reducible apply Fr_burns | with_reducible apply Fr_setF (by decide) | with_reducible apply Fr_setA (by decide) | with_reducible apply Fr_B))
              clear_value s133
              show mFr ρ s133
              (repeat (first | assumption | with_reducible apply Fr_goes | with_reducible apply Fr_fail | with_reducible apply Fr_refuses | with_reducible apply Fr_refusesBurning | with_reducible apply Fr_mk | with_reducible apply Fr_makes | with_reducible apply Fr_comes | with_reducible apply Fr_burns | with_reducible apply Fr_setF (by decide) | with_reducible apply Fr_setA (by decide) | with_reducible apply Fr_B))
            · extract_lets +onlyGivenNames s106
              have h_s106 : mFr ρ s106 := by
                show mFr ρ ((M_refuses σ 7 ((σ.2 9 (30 + 8 * k1 + 3)) - 1)).2)
                (repeat (first | assumption | with_reducible apply Fr_goes | with_reducible apply Fr_fail | with_reducible apply Fr_refuses | with_reducible apply Fr_refusesBurning | with_reducible apply Fr_mk | with_reducible apply Fr_makes | with_reducible apply Fr_comes | with_reducible apply Fr_burns | with_reducible apply Fr_setF (by decide) | with_reducible apply Fr_setA (by decide) | with_reducible apply Fr_B))
              clear_value s106
              show mFr ρ s106
              (repeat (first | assumption | with_reducible apply Fr_goes | with_reducible apply Fr_fail | with_reducible apply Fr_refuses | with_reducible apply Fr_refusesBurning | with_reducible apply Fr_mk | with_reducible apply Fr_makes | with_reducible apply Fr_comes | with_reducible apply Fr_burns | with_reducible apply Fr_setF (by decide) | with_reducible apply Fr_setA (by decide) | with_reducible apply Fr_B))
theorem Fr_snuffs {ρ σ : mSt} {n : Nat} {h s a : Int32} (hFr : mFr ρ σ) : mFr ρ (M_snuffs σ n h s a).2 := by
  unfold M_snuffs
  refine Fr_B2 ?_ ?_
  · extract_lets +onlyGivenNames s19
    have h_s19 : mFr ρ s19 := by
      show mFr ρ ((M_fail σ (-1011)).2)
      (repeat (first | assumption | with_reducible apply Fr_goes | with_reducible apply Fr_fail | with_reducible apply Fr_refuses | with_reducible apply Fr_refusesBurning | with_reducible apply Fr_mk | with_reducible apply Fr_makes | with_reducible apply Fr_comes | with_reducible apply Fr_burns | with_reducible apply Fr_owes | with_reducible apply Fr_setF (by decide) | with_reducible apply Fr_setA (by decide) | with_reducible apply Fr_B))
    clear_value s19
    show mFr ρ s19
    (repeat (first | assumption | with_reducible apply Fr_goes | with_reducible apply Fr_fail | with_reducible apply Fr_refuses | with_reducible apply Fr_refusesBurning | with_reducible apply Fr_mk | with_reducible apply Fr_makes | with_reducible apply Fr_comes | with_reducible apply Fr_burns | with_reducible apply Fr_owes | with_reducible apply Fr_setF (by decide) | with_reducible apply Fr_setA (by decide) | with_reducible apply Fr_B))
  · refine Fr_B2 ?_ ?_
    · extract_lets +onlyGivenNames s19
      have h_s19 : mFr ρ s19 := by
        show mFr ρ ((M_fail σ (-1011)).2)
        (repeat (first | assumption | with_reducible apply Fr_goes | with_reducible apply Fr_fail | with_reducible apply Fr_refuses | with_reducible apply Fr_refusesBurning | with_reducible apply Fr_mk | with_reducible apply Fr_makes | with_reducible apply Fr_comes | with_reducible apply Fr_burns | with_reducible apply Fr_owes | with_reducible apply Fr_setF (by decide) | with_reducible apply Fr_setA (by decide) | with_reducible apply Fr_B))
      clear_value s19
      show mFr ρ s19
      (repeat (first | assumption | with_reducible apply Fr_goes | with_reducible apply Fr_fail | with_reducible apply Fr_refuses | with_reducible apply Fr_refusesBurning | with_reducible apply Fr_mk | with_reducible apply Fr_makes | with_reducible apply Fr_comes | with_reducible apply Fr_burns | with_reducible apply Fr_owes | with_reducible apply Fr_setF (by decide) | with_reducible apply Fr_setA (by decide) | with_reducible apply Fr_B))
    · extract_lets +onlyGivenNames k1
      clear_value k1
      extract_lets +onlyGivenNames k2
      clear_value k2
      refine Fr_B2 ?_ ?_
      · extract_lets +onlyGivenNames s37
        have h_s37 : mFr ρ s37 := by
          show mFr ρ ((M_fail σ (-1012)).2)
          (repeat (first | assumption | with_reducible apply Fr_goes | with_reducible apply Fr_fail | with_reducible apply Fr_refuses | with_reducible apply Fr_refusesBurning | with_reducible apply Fr_mk | with_reducible apply Fr_makes | with_reducible apply Fr_comes | with_reducible apply Fr_burns | with_reducible apply Fr_owes | with_reducible apply Fr_setF (by decide) | with_reducible apply Fr_setA (by decide) | with_reducible apply Fr_B))
        clear_value s37
        show mFr ρ s37
        (repeat (first | assumption | with_reducible apply Fr_goes | with_reducible apply Fr_fail | with_reducible apply Fr_refuses | with_reducible apply Fr_refusesBurning | with_reducible apply Fr_mk | with_reducible apply Fr_makes | with_reducible apply Fr_comes | with_reducible apply Fr_burns | with_reducible apply Fr_owes | with_reducible apply Fr_setF (by decide) | with_reducible apply Fr_setA (by decide) | with_reducible apply Fr_B))
      · refine Fr_B2 ?_ ?_
        · extract_lets +onlyGivenNames s52
          have h_s52 : mFr ρ s52 := by
            show mFr ρ ((M_refuses σ 2 (nI k1)).2)
            (repeat (first | assumption | with_reducible apply Fr_goes | with_reducible apply Fr_fail | with_reducible apply Fr_refuses | with_reducible apply Fr_refusesBurning | with_reducible apply Fr_mk | with_reducible apply Fr_makes | with_reducible apply Fr_comes | with_reducible apply Fr_burns | with_reducible apply Fr_owes | with_reducible apply Fr_setF (by decide) | with_reducible apply Fr_setA (by decide) | with_reducible apply Fr_B))
          clear_value s52
          show mFr ρ s52
          (repeat (first | assumption | with_reducible apply Fr_goes | with_reducible apply Fr_fail | with_reducible apply Fr_refuses | with_reducible apply Fr_refusesBurning | with_reducible apply Fr_mk | with_reducible apply Fr_makes | with_reducible apply Fr_comes | with_reducible apply Fr_burns | with_reducible apply Fr_owes | with_reducible apply Fr_setF (by decide) | with_reducible apply Fr_setA (by decide) | with_reducible apply Fr_B))
        · refine Fr_B2 ?_ ?_
          · extract_lets +onlyGivenNames s74
            have h_s74 : mFr ρ s74 := by
              show mFr ρ ((M_refuses σ 8 (nI k1)).2)
              (repeat (first | assumption | with_reducible apply Fr_goes | with_reducible apply Fr_fail | with_reducible apply Fr_refuses | with_reducible apply Fr_refusesBurning | with_reducible apply Fr_mk | with_reducible apply Fr_makes | with_reducible apply Fr_comes | with_reducible apply Fr_burns | with_reducible apply Fr_owes | with_reducible apply Fr_setF (by decide) | with_reducible apply Fr_setA (by decide) | with_reducible apply Fr_B))
            clear_value s74
            show mFr ρ s74
            (repeat (first | assumption | with_reducible apply Fr_goes | with_reducible apply Fr_fail | with_reducible apply Fr_refuses | with_reducible apply Fr_refusesBurning | with_reducible apply Fr_mk | with_reducible apply Fr_makes | with_reducible apply Fr_comes | with_reducible apply Fr_burns | with_reducible apply Fr_owes | with_reducible apply Fr_setF (by decide) | with_reducible apply Fr_setA (by decide) | with_reducible apply Fr_B))
          · refine Fr_B2 ?_ ?_
            · refine Fr_B2 ?_ ?_
              · extract_lets +onlyGivenNames s121
                have h_s121 : mFr ρ s121 := by
                  show mFr ρ ((M_refuses σ 1 2).2)
                  (repeat (first | assumption | with_reducible apply Fr_goes | with_reducible apply Fr_fail | with_reducible apply Fr_refuses | with_reducible apply Fr_refusesBurning | with_reducible apply Fr_mk | with_reducible apply Fr_makes | with_reducible apply Fr_comes | with_reducible apply Fr_burns | with_reducible apply Fr_owes | with_reducible apply Fr_setF (by decide) | with_reducible apply Fr_setA (by decide) | with_reducible apply Fr_B))
                clear_value s121
                show mFr ρ s121
                (repeat (first | assumption | with_reducible apply Fr_goes | with_reducible apply Fr_fail | with_reducible apply Fr_refuses | with_reducible apply Fr_refusesBurning | with_reducible apply Fr_mk | with_reducible apply Fr_makes | with_reducible apply Fr_comes | with_reducible apply Fr_burns | with_reducible apply Fr_owes | with_reducible apply Fr_setF (by decide) | with_reducible apply Fr_setA (by decide) | with_reducible apply Fr_B))
              · extract_lets +onlyGivenNames s138
                have h_s138 : mFr ρ s138 := by
                  show mFr ρ (setA σ 9 (30 + 8 * k2 + 6) (nI (k1 + 1)))
                  (repeat (first | assumption | with_reducible apply Fr_goes | with_reducible apply Fr_fail | with_reducible apply Fr_refuses | with_reducible apply Fr_refusesBurning | with_reducible apply Fr_mk | with_reducible apply Fr_makes | with_reducible apply Fr_comes | with_reducible apply Fr_burns | with_reducible apply Fr_owes | with_reducible apply Fr_setF (by decide) | with_reducible apply Fr_setA (by decide) | with_reducible apply Fr_B))
                clear_value s138
                extract_lets +onlyGivenNames s149
                have h_s149 : mFr ρ s149 := by
                  show mFr ρ (setA s138 9 (30 + 8 * k2 + 5) a)
                  (repeat (first | assumption | with_reducible apply Fr_goes | with_reducible apply Fr_fail | with_reducible apply Fr_refuses | with_reducible apply Fr_refusesBurning | with_reducible apply Fr_mk | with_reducible apply Fr_makes | with_reducible apply Fr_comes | with_reducible apply Fr_burns | with_reducible apply Fr_owes | with_reducible apply Fr_setF (by decide) | with_reducible apply Fr_setA (by decide) | with_reducible apply Fr_B))
                clear_value s149
                show mFr ρ s149
                (repeat (first | assumption | with_reducible apply Fr_goes | with_reducible apply Fr_fail | with_reducible apply Fr_refuses | with_reducible apply Fr_refusesBurning | with_reducible apply Fr_mk | with_reducible apply Fr_makes | with_reducible apply Fr_comes | with_reducible apply Fr_burns | with_reducible apply Fr_owes | with_reducible apply Fr_setF (by decide) | with_reducible apply Fr_setA (by decide) | with_reducible apply Fr_B))
            · extract_lets +onlyGivenNames s105
              have h_s105 : mFr ρ s105 := by
                show mFr ρ ((M_refuses σ 9 (σ.2 9 (30 + 8 * k2 + 5))).2)
                (repeat (first | assumption | with_reducible apply Fr_goes | with_reducible apply Fr_fail | with_reducible apply Fr_refuses | with_reducible apply Fr_refusesBurning | with_reducible apply Fr_mk | with_reducible apply Fr_makes | with_reducible apply Fr_comes | with_reducible apply Fr_burns | with_reducible apply Fr_owes | with_reducible apply Fr_setF (by decide) | with_reducible apply Fr_setA (by decide) | with_reducible apply Fr_B))
              clear_value s105
              show mFr ρ s105
              (repeat (first | assumption | with_reducible apply Fr_goes | with_reducible apply Fr_fail | with_reducible apply Fr_refuses | with_reducible apply Fr_refusesBurning | with_reducible apply Fr_mk | with_reducible apply Fr_makes | with_reducible apply Fr_comes | with_reducible apply Fr_burns | with_reducible apply Fr_owes | with_reducible apply Fr_setF (by decide) | with_reducible apply Fr_setA (by decide) | with_reducible apply Fr_B))
theorem Fr_pools {ρ σ : mSt} {n : Nat} {s a : Int32} (hFr : mFr ρ σ) : mFr ρ (M_pools σ n s a).2 := by
  unfold M_pools
  refine Fr_B2 ?_ ?_
  · extract_lets +onlyGivenNames s12
    have h_s12 : mFr ρ s12 := by
      show mFr ρ ((M_fail σ (-1011)).2)
      (repeat (first | assumption | with_reducible apply Fr_goes | with_reducible apply Fr_fail | with_reducible apply Fr_refuses | with_reducible apply Fr_refusesBurning | with_reducible apply Fr_mk | with_reducible apply Fr_makes | with_reducible apply Fr_comes | with_reducible apply Fr_burns | with_reducible apply Fr_owes | with_reducible apply Fr_snuffs | with_reducible apply Fr_setF (by decide) | with_reducible apply Fr_setA (by decide) | with_reducible apply Fr_B))
    clear_value s12
    show mFr ρ s12
    (repeat (first | assumption | with_reducible apply Fr_goes | with_reducible apply Fr_fail | with_reducible apply Fr_refuses | with_reducible apply Fr_refusesBurning | with_reducible apply Fr_mk | with_reducible apply Fr_makes | with_reducible apply Fr_comes | with_reducible apply Fr_burns | with_reducible apply Fr_owes | with_reducible apply Fr_snuffs | with_reducible apply Fr_setF (by decide) | with_reducible apply Fr_setA (by decide) | with_reducible apply Fr_B))
  · extract_lets +onlyGivenNames k1
    clear_value k1
    refine Fr_B2 ?_ ?_
    · extract_lets +onlyGivenNames s30
      have h_s30 : mFr ρ s30 := by
        show mFr ρ ((M_fail σ (-1012)).2)
        (repeat (first | assumption | with_reducible apply Fr_goes | with_reducible apply Fr_fail | with_reducible apply Fr_refuses | with_reducible apply Fr_refusesBurning | with_reducible apply Fr_mk | with_reducible apply Fr_makes | with_reducible apply Fr_comes | with_reducible apply Fr_burns | with_reducible apply Fr_owes | with_reducible apply Fr_snuffs | with_reducible apply Fr_setF (by decide) | with_reducible apply Fr_setA (by decide) | with_reducible apply Fr_B))
      clear_value s30
      show mFr ρ s30
      (repeat (first | assumption | with_reducible apply Fr_goes | with_reducible apply Fr_fail | with_reducible apply Fr_refuses | with_reducible apply Fr_refusesBurning | with_reducible apply Fr_mk | with_reducible apply Fr_makes | with_reducible apply Fr_comes | with_reducible apply Fr_burns | with_reducible apply Fr_owes | with_reducible apply Fr_snuffs | with_reducible apply Fr_setF (by decide) | with_reducible apply Fr_setA (by decide) | with_reducible apply Fr_B))
    · refine Fr_B2 ?_ ?_
      · extract_lets +onlyGivenNames j72
        clear_value j72
        extract_lets +onlyGivenNames s80
        have h_s80 : mFr ρ s80 := by
          show mFr ρ (setA σ 9 (6 + 4 * j72 + 3) ((σ.2 9 (6 + 4 * j72 + 3)) + a))
          (repeat (first | assumption | with_reducible apply Fr_goes | with_reducible apply Fr_fail | with_reducible apply Fr_refuses | with_reducible apply Fr_refusesBurning | with_reducible apply Fr_mk | with_reducible apply Fr_makes | with_reducible apply Fr_comes | with_reducible apply Fr_burns | with_reducible apply Fr_owes | with_reducible apply Fr_snuffs | with_reducible apply Fr_setF (by decide) | with_reducible apply Fr_setA (by decide) | with_reducible apply Fr_B))
        clear_value s80
        extract_lets +onlyGivenNames s94
        have h_s94 : mFr ρ s94 := by
          show mFr ρ (setA s80 9 (30 + 8 * k1 + 1) ((s80.2 9 (30 + 8 * k1 + 1)) - a))
          (repeat (first | assumption | with_reducible apply Fr_goes | with_reducible apply Fr_fail | with_reducible apply Fr_refuses | with_reducible apply Fr_refusesBurning | with_reducible apply Fr_mk | with_reducible apply Fr_makes | with_reducible apply Fr_comes | with_reducible apply Fr_burns | with_reducible apply Fr_owes | with_reducible apply Fr_snuffs | with_reducible apply Fr_setF (by decide) | with_reducible apply Fr_setA (by decide) | with_reducible apply Fr_B))
        clear_value s94
        extract_lets +onlyGivenNames s105
        have h_s105 : mFr ρ s105 := by
          show mFr ρ (if (σ.2 9 (30 + 8 * k1 + 1)) = a then (M_goes s94 k1) else s94)
          (repeat (first | assumption | with_reducible apply Fr_goes | with_reducible apply Fr_fail | with_reducible apply Fr_refuses | with_reducible apply Fr_refusesBurning | with_reducible apply Fr_mk | with_reducible apply Fr_makes | with_reducible apply Fr_comes | with_reducible apply Fr_burns | with_reducible apply Fr_owes | with_reducible apply Fr_snuffs | with_reducible apply Fr_setF (by decide) | with_reducible apply Fr_setA (by decide) | with_reducible apply Fr_B))
        clear_value s105
        show mFr ρ s105
        (repeat (first | assumption | with_reducible apply Fr_goes | with_reducible apply Fr_fail | with_reducible apply Fr_refuses | with_reducible apply Fr_refusesBurning | with_reducible apply Fr_mk | with_reducible apply Fr_makes | with_reducible apply Fr_comes | with_reducible apply Fr_burns | with_reducible apply Fr_owes | with_reducible apply Fr_snuffs | with_reducible apply Fr_setF (by decide) | with_reducible apply Fr_setA (by decide) | with_reducible apply Fr_B))
      · extract_lets +onlyGivenNames s54
        have h_s54 : mFr ρ s54 := by
          show mFr ρ ((M_refuses σ 10 (σ.2 9 (30 + 8 * k1 + 1))).2)
          (repeat (first | assumption | with_reducible apply Fr_goes | with_reducible apply Fr_fail | with_reducible apply Fr_refuses | with_reducible apply Fr_refusesBurning | with_reducible apply Fr_mk | with_reducible apply Fr_makes | with_reducible apply Fr_comes | with_reducible apply Fr_burns | with_reducible apply Fr_owes | with_reducible apply Fr_snuffs | with_reducible apply Fr_setF (by decide) | with_reducible apply Fr_setA (by decide) | with_reducible apply Fr_B))
        clear_value s54
        show mFr ρ s54
        (repeat (first | assumption | with_reducible apply Fr_goes | with_reducible apply Fr_fail | with_reducible apply Fr_refuses | with_reducible apply Fr_refusesBurning | with_reducible apply Fr_mk | with_reducible apply Fr_makes | with_reducible apply Fr_comes | with_reducible apply Fr_burns | with_reducible apply Fr_owes | with_reducible apply Fr_snuffs | with_reducible apply Fr_setF (by decide) | with_reducible apply Fr_setA (by decide) | with_reducible apply Fr_B))
theorem Fr_moulds {ρ σ : mSt} {n : Nat} {h a b : Int32} (hFr : mFr ρ σ) : mFr ρ (M_moulds σ n h a b).2 := by
  unfold M_moulds
  refine Fr_B2 ?_ ?_
  · extract_lets +onlyGivenNames s11
    have h_s11 : mFr ρ s11 := by
      show mFr ρ ((M_fail σ (-1011)).2)
      (repeat (first | assumption | with_reducible apply Fr_goes | with_reducible apply Fr_fail | with_reducible apply Fr_refuses | with_reducible apply Fr_refusesBurning | with_reducible apply Fr_mk | with_reducible apply Fr_makes | with_reducible apply Fr_comes | with_reducible apply Fr_burns | with_reducible apply Fr_owes | with_reducible apply Fr_snuffs | with_reducible apply Fr_pools | with_reducible apply Fr_setF (by decide) | with_reducible apply Fr_setA (by decide) | with_reducible apply Fr_B))
    clear_value s11
    show mFr ρ s11
    (repeat (first | assumption | with_reducible apply Fr_goes | with_reducible apply Fr_fail | with_reducible apply Fr_refuses | with_reducible apply Fr_refusesBurning | with_reducible apply Fr_mk | with_reducible apply Fr_makes | with_reducible apply Fr_comes | with_reducible apply Fr_burns | with_reducible apply Fr_owes | with_reducible apply Fr_snuffs | with_reducible apply Fr_pools | with_reducible apply Fr_setF (by decide) | with_reducible apply Fr_setA (by decide) | with_reducible apply Fr_B))
  · refine Fr_B2 ?_ ?_
    · extract_lets +onlyGivenNames s27
      have h_s27 : mFr ρ s27 := by
        show mFr ρ ((M_fail σ (-1012)).2)
        (repeat (first | assumption | with_reducible apply Fr_goes | with_reducible apply Fr_fail | with_reducible apply Fr_refuses | with_reducible apply Fr_refusesBurning | with_reducible apply Fr_mk | with_reducible apply Fr_makes | with_reducible apply Fr_comes | with_reducible apply Fr_burns | with_reducible apply Fr_owes | with_reducible apply Fr_snuffs | with_reducible apply Fr_pools | with_reducible apply Fr_setF (by decide) | with_reducible apply Fr_setA (by decide) | with_reducible apply Fr_B))
      clear_value s27
      show mFr ρ s27
      (repeat (first | assumption | with_reducible apply Fr_goes | with_reducible apply Fr_fail | with_reducible apply Fr_refuses | with_reducible apply Fr_refusesBurning | with_reducible apply Fr_mk | with_reducible apply Fr_makes | with_reducible apply Fr_comes | with_reducible apply Fr_burns | with_reducible apply Fr_owes | with_reducible apply Fr_snuffs | with_reducible apply Fr_pools | with_reducible apply Fr_setF (by decide) | with_reducible apply Fr_setA (by decide) | with_reducible apply Fr_B))
    · extract_lets +onlyGivenNames k1
      clear_value k1
      refine Fr_B2 ?_ ?_
      · extract_lets +onlyGivenNames s42
        have h_s42 : mFr ρ s42 := by
          show mFr ρ ((M_refuses σ 2 (nI k1)).2)
          (repeat (first | assumption | with_reducible apply Fr_goes | with_reducible apply Fr_fail | with_reducible apply Fr_refuses | with_reducible apply Fr_refusesBurning | with_reducible apply Fr_mk | with_reducible apply Fr_makes | with_reducible apply Fr_comes | with_reducible apply Fr_burns | with_reducible apply Fr_owes | with_reducible apply Fr_snuffs | with_reducible apply Fr_pools | with_reducible apply Fr_setF (by decide) | with_reducible apply Fr_setA (by decide) | with_reducible apply Fr_B))
        clear_value s42
        show mFr ρ s42
        (repeat (first | assumption | with_reducible apply Fr_goes | with_reducible apply Fr_fail | with_reducible apply Fr_refuses | with_reducible apply Fr_refusesBurning | with_reducible apply Fr_mk | with_reducible apply Fr_makes | with_reducible apply Fr_comes | with_reducible apply Fr_burns | with_reducible apply Fr_owes | with_reducible apply Fr_snuffs | with_reducible apply Fr_pools | with_reducible apply Fr_setF (by decide) | with_reducible apply Fr_setA (by decide) | with_reducible apply Fr_B))
      · refine Fr_B2 ?_ ?_
        · extract_lets +onlyGivenNames s90
          have h_s90 : mFr ρ s90 := by
            show mFr ρ (setA σ 9 (6 + 4 * k1 + 2) ((σ.2 9 (6 + 4 * k1 + 2)) - a))
            (repeat (first | assumption | with_reducible apply Fr_goes | with_reducible apply Fr_fail | with_reducible apply Fr_refuses | with_reducible apply Fr_refusesBurning | with_reducible apply Fr_mk | with_reducible apply Fr_makes | with_reducible apply Fr_comes | with_reducible apply Fr_burns | with_reducible apply Fr_owes | with_reducible apply Fr_snuffs | with_reducible apply Fr_pools | with_reducible apply Fr_setF (by decide) | with_reducible apply Fr_setA (by decide) | with_reducible apply Fr_B))
          clear_value s90
          extract_lets +onlyGivenNames s95
          have h_s95 : mFr ρ s95 := by
            show mFr ρ ((M_makes s90 n (nI k1) a b).2)
            (repeat (first | assumption | with_reducible apply Fr_goes | with_reducible apply Fr_fail | with_reducible apply Fr_refuses | with_reducible apply Fr_refusesBurning | with_reducible apply Fr_mk | with_reducible apply Fr_makes | with_reducible apply Fr_comes | with_reducible apply Fr_burns | with_reducible apply Fr_owes | with_reducible apply Fr_snuffs | with_reducible apply Fr_pools | with_reducible apply Fr_setF (by decide) | with_reducible apply Fr_setA (by decide) | with_reducible apply Fr_B))
          clear_value s95
          show mFr ρ s95
          (repeat (first | assumption | with_reducible apply Fr_goes | with_reducible apply Fr_fail | with_reducible apply Fr_refuses | with_reducible apply Fr_refusesBurning | with_reducible apply Fr_mk | with_reducible apply Fr_makes | with_reducible apply Fr_comes | with_reducible apply Fr_burns | with_reducible apply Fr_owes | with_reducible apply Fr_snuffs | with_reducible apply Fr_pools | with_reducible apply Fr_setF (by decide) | with_reducible apply Fr_setA (by decide) | with_reducible apply Fr_B))
        · extract_lets +onlyGivenNames s73
          have h_s73 : mFr ρ s73 := by
            show mFr ρ ((M_refuses σ 13 (σ.2 9 (6 + 4 * k1 + 2))).2)
            (repeat (first | assumption | with_reducible apply Fr_goes | with_reducible apply Fr_fail | with_reducible apply Fr_refuses | with_reducible apply Fr_refusesBurning | with_reducible apply Fr_mk | with_reducible apply Fr_makes | with_reducible apply Fr_comes | with_reducible apply Fr_burns | with_reducible apply Fr_owes | with_reducible apply Fr_snuffs | with_reducible apply Fr_pools | with_reducible apply Fr_setF (by decide) | with_reducible apply Fr_setA (by decide) | with_reducible apply Fr_B))
          clear_value s73
          show mFr ρ s73
          (repeat (first | assumption | with_reducible apply Fr_goes | with_reducible apply Fr_fail | with_reducible apply Fr_refuses | with_reducible apply Fr_refusesBurning | with_reducible apply Fr_mk | with_reducible apply Fr_makes | with_reducible apply Fr_comes | with_reducible apply Fr_burns | with_reducible apply Fr_owes | with_reducible apply Fr_snuffs | with_reducible apply Fr_pools | with_reducible apply Fr_setF (by decide) | with_reducible apply Fr_setA (by decide) | with_reducible apply Fr_B))
theorem Fr_tellsHeir {ρ σ : mSt} {h c : Int32} (hFr : mFr ρ σ) : mFr ρ (M_tellsHeir σ h c).2 := by
  unfold M_tellsHeir
  refine Fr_B2 ?_ ?_
  · extract_lets +onlyGivenNames s18
    have h_s18 : mFr ρ s18 := by
      show mFr ρ ((M_fail σ (-1011)).2)
      (repeat (first | assumption | with_reducible apply Fr_goes | with_reducible apply Fr_fail | with_reducible apply Fr_refuses | with_reducible apply Fr_refusesBurning | with_reducible apply Fr_mk | with_reducible apply Fr_makes | with_reducible apply Fr_comes | with_reducible apply Fr_burns | with_reducible apply Fr_owes | with_reducible apply Fr_snuffs | with_reducible apply Fr_pools | with_reducible apply Fr_moulds | with_reducible apply Fr_setF (by decide) | with_reducible apply Fr_setA (by decide) | with_reducible apply Fr_B))
    clear_value s18
    show mFr ρ s18
    (repeat (first | assumption | with_reducible apply Fr_goes | with_reducible apply Fr_fail | with_reducible apply Fr_refuses | with_reducible apply Fr_refusesBurning | with_reducible apply Fr_mk | with_reducible apply Fr_makes | with_reducible apply Fr_comes | with_reducible apply Fr_burns | with_reducible apply Fr_owes | with_reducible apply Fr_snuffs | with_reducible apply Fr_pools | with_reducible apply Fr_moulds | with_reducible apply Fr_setF (by decide) | with_reducible apply Fr_setA (by decide) | with_reducible apply Fr_B))
  · refine Fr_B2 ?_ ?_
    · extract_lets +onlyGivenNames s18
      have h_s18 : mFr ρ s18 := by
        show mFr ρ ((M_fail σ (-1011)).2)
        (repeat (first | assumption | with_reducible apply Fr_goes | with_reducible apply Fr_fail | with_reducible apply Fr_refuses | with_reducible apply Fr_refusesBurning | with_reducible apply Fr_mk | with_reducible apply Fr_makes | with_reducible apply Fr_comes | with_reducible apply Fr_burns | with_reducible apply Fr_owes | with_reducible apply Fr_snuffs | with_reducible apply Fr_pools | with_reducible apply Fr_moulds | with_reducible apply Fr_setF (by decide) | with_reducible apply Fr_setA (by decide) | with_reducible apply Fr_B))
      clear_value s18
      show mFr ρ s18
      (repeat (first | assumption | with_reducible apply Fr_goes | with_reducible apply Fr_fail | with_reducible apply Fr_refuses | with_reducible apply Fr_refusesBurning | with_reducible apply Fr_mk | with_reducible apply Fr_makes | with_reducible apply Fr_comes | with_reducible apply Fr_burns | with_reducible apply Fr_owes | with_reducible apply Fr_snuffs | with_reducible apply Fr_pools | with_reducible apply Fr_moulds | with_reducible apply Fr_setF (by decide) | with_reducible apply Fr_setA (by decide) | with_reducible apply Fr_B))
    · extract_lets +onlyGivenNames k1
      clear_value k1
      refine Fr_B2 ?_ ?_
      · extract_lets +onlyGivenNames s42
        have h_s42 : mFr ρ s42 := by
          show mFr ρ ((M_refuses σ 14 c).2)
          (repeat (first | assumption | with_reducible apply Fr_goes | with_reducible apply Fr_fail | with_reducible apply Fr_refuses | with_reducible apply Fr_refusesBurning | with_reducible apply Fr_mk | with_reducible apply Fr_makes | with_reducible apply Fr_comes | with_reducible apply Fr_burns | with_reducible apply Fr_owes | with_reducible apply Fr_snuffs | with_reducible apply Fr_pools | with_reducible apply Fr_moulds | with_reducible apply Fr_setF (by decide) | with_reducible apply Fr_setA (by decide) | with_reducible apply Fr_B))
        clear_value s42
        show mFr ρ s42
        (repeat (first | assumption | with_reducible apply Fr_goes | with_reducible apply Fr_fail | with_reducible apply Fr_refuses | with_reducible apply Fr_refusesBurning | with_reducible apply Fr_mk | with_reducible apply Fr_makes | with_reducible apply Fr_comes | with_reducible apply Fr_burns | with_reducible apply Fr_owes | with_reducible apply Fr_snuffs | with_reducible apply Fr_pools | with_reducible apply Fr_moulds | with_reducible apply Fr_setF (by decide) | with_reducible apply Fr_setA (by decide) | with_reducible apply Fr_B))
      · extract_lets +onlyGivenNames s56
        have h_s56 : mFr ρ s56 := by
          show mFr ρ (setA σ 9 (6 + 4 * k1 + 1) c)
          (repeat (first | assumption | with_reducible apply Fr_goes | with_reducible apply Fr_fail | with_reducible apply Fr_refuses | with_reducible apply Fr_refusesBurning | with_reducible apply Fr_mk | with_reducible apply Fr_makes | with_reducible apply Fr_comes | with_reducible apply Fr_burns | with_reducible apply Fr_owes | with_reducible apply Fr_snuffs | with_reducible apply Fr_pools | with_reducible apply Fr_moulds | with_reducible apply Fr_setF (by decide) | with_reducible apply Fr_setA (by decide) | with_reducible apply Fr_B))
        clear_value s56
        show mFr ρ s56
        (repeat (first | assumption | with_reducible apply Fr_goes | with_reducible apply Fr_fail | with_reducible apply Fr_refuses | with_reducible apply Fr_refusesBurning | with_reducible apply Fr_mk | with_reducible apply Fr_makes | with_reducible apply Fr_comes | with_reducible apply Fr_burns | with_reducible apply Fr_owes | with_reducible apply Fr_snuffs | with_reducible apply Fr_pools | with_reducible apply Fr_moulds | with_reducible apply Fr_setF (by decide) | with_reducible apply Fr_setA (by decide) | with_reducible apply Fr_B))
theorem Fr_f1 {ρ : mSt} {n : Nat} {a b : Int32} {s0 : Int32 × mSt} (h : mFr ρ s0.2) : mFr ρ (iterN (B_finds1 n a b) s0 6).2 := Fr_it2 (fun i s hs => Fr_setA (by decide) (Fr_setA (by decide) hs)) h _
theorem Fr_f2 {ρ : mSt} {e : Nat} {a b : Int32} {s0 : mSt} (h : mFr ρ s0) : mFr ρ (iterN (B_finds2 e a b) s0 e) := Fr_it (fun i s hs => Fr_setA (by decide) (Fr_setA (by decide) hs)) h _
theorem Fr_finds {ρ σ : mSt} {n e : Nat} (h : mFr ρ σ) : mFr ρ (M_finds σ n e) := by
  unfold M_finds
  extract_lets +onlyGivenNames s15
  have h1 : mFr ρ s15 := Fr_f1 h
  clear_value s15
  exact Fr_B (Fr_f2 h1) h1
theorem Fr_sh {ρ : mSt} {s0 : Int32 × mSt} (h : mFr ρ s0.2) : mFr ρ (iterN B_shares s0 6).2 := Fr_it2 (fun i s hs => Fr_setA (by decide) (Fr_setA (by decide) hs)) h _
theorem Fr_shares {ρ σ : mSt} {n e : Nat} (hFr : mFr ρ σ) : mFr ρ (M_shares σ n e).2 := by
  unfold M_shares
  refine Fr_B2 ?_ ?_
  · extract_lets +onlyGivenNames s16
    have h_s16 : mFr ρ s16 := by
      show mFr ρ ((M_refuses σ 11 (σ.2 9 0)).2)
      (repeat (first | assumption | with_reducible apply Fr_goes | with_reducible apply Fr_fail | with_reducible apply Fr_refuses | with_reducible apply Fr_refusesBurning | with_reducible apply Fr_mk | with_reducible apply Fr_makes | with_reducible apply Fr_comes | with_reducible apply Fr_burns | with_reducible apply Fr_owes | with_reducible apply Fr_snuffs | with_reducible apply Fr_pools | with_reducible apply Fr_moulds | with_reducible apply Fr_tellsHeir | with_reducible apply Fr_f1 | with_reducible apply Fr_f2 | with_reducible apply Fr_finds | with_reducible apply Fr_sh | with_reducible apply Fr_setF (by decide) | with_reducible apply Fr_setA (by decide) | with_reducible apply Fr_B))
    clear_value s16
    show mFr ρ s16
    (repeat (first | assumption | with_reducible apply Fr_goes | with_reducible apply Fr_fail | with_reducible apply Fr_refuses | with_reducible apply Fr_refusesBurning | with_reducible apply Fr_mk | with_reducible apply Fr_makes | with_reducible apply Fr_comes | with_reducible apply Fr_burns | with_reducible apply Fr_owes | with_reducible apply Fr_snuffs | with_reducible apply Fr_pools | with_reducible apply Fr_moulds | with_reducible apply Fr_tellsHeir | with_reducible apply Fr_f1 | with_reducible apply Fr_f2 | with_reducible apply Fr_finds | with_reducible apply Fr_sh | with_reducible apply Fr_setF (by decide) | with_reducible apply Fr_setA (by decide) | with_reducible apply Fr_B))
  · refine Fr_B2 ?_ ?_
    · extract_lets +onlyGivenNames s34
      have h_s34 : mFr ρ s34 := by
        show mFr ρ ((M_refuses σ 12 (M_pooled σ)).2)
        (repeat (first | assumption | with_reducible apply Fr_goes | with_reducible apply Fr_fail | with_reducible apply Fr_refuses | with_reducible apply Fr_refusesBurning | with_reducible apply Fr_mk | with_reducible apply Fr_makes | with_reducible apply Fr_comes | with_reducible apply Fr_burns | with_reducible apply Fr_owes | with_reducible apply Fr_snuffs | with_reducible apply Fr_pools | with_reducible apply Fr_moulds | with_reducible apply Fr_tellsHeir | with_reducible apply Fr_f1 | with_reducible apply Fr_f2 | with_reducible apply Fr_finds | with_reducible apply Fr_sh | with_reducible apply Fr_setF (by decide) | with_reducible apply Fr_setA (by decide) | with_reducible apply Fr_B))
      clear_value s34
      show mFr ρ s34
      (repeat (first | assumption | with_reducible apply Fr_goes | with_reducible apply Fr_fail | with_reducible apply Fr_refuses | with_reducible apply Fr_refusesBurning | with_reducible apply Fr_mk | with_reducible apply Fr_makes | with_reducible apply Fr_comes | with_reducible apply Fr_burns | with_reducible apply Fr_owes | with_reducible apply Fr_snuffs | with_reducible apply Fr_pools | with_reducible apply Fr_moulds | with_reducible apply Fr_tellsHeir | with_reducible apply Fr_f1 | with_reducible apply Fr_f2 | with_reducible apply Fr_finds | with_reducible apply Fr_sh | with_reducible apply Fr_setF (by decide) | with_reducible apply Fr_setA (by decide) | with_reducible apply Fr_B))
    · extract_lets +onlyGivenNames s41
      have h_s41 : mFr ρ s41 := by
        show mFr ρ (M_finds σ n e)
        (repeat (first | assumption | with_reducible apply Fr_goes | with_reducible apply Fr_fail | with_reducible apply Fr_refuses | with_reducible apply Fr_refusesBurning | with_reducible apply Fr_mk | with_reducible apply Fr_makes | with_reducible apply Fr_comes | with_reducible apply Fr_burns | with_reducible apply Fr_owes | with_reducible apply Fr_snuffs | with_reducible apply Fr_pools | with_reducible apply Fr_moulds | with_reducible apply Fr_tellsHeir | with_reducible apply Fr_f1 | with_reducible apply Fr_f2 | with_reducible apply Fr_finds | with_reducible apply Fr_sh | with_reducible apply Fr_setF (by decide) | with_reducible apply Fr_setA (by decide) | with_reducible apply Fr_B))
      clear_value s41
      extract_lets +onlyGivenNames s46
      have h_s46 : mFr ρ s46 := by
        show mFr ρ ((iterN (B_shares ) (0, s41) 6).2)
        (repeat (first | assumption | with_reducible apply Fr_goes | with_reducible apply Fr_fail | with_reducible apply Fr_refuses | with_reducible apply Fr_refusesBurning | with_reducible apply Fr_mk | with_reducible apply Fr_makes | with_reducible apply Fr_comes | with_reducible apply Fr_burns | with_reducible apply Fr_owes | with_reducible apply Fr_snuffs | with_reducible apply Fr_pools | with_reducible apply Fr_moulds | with_reducible apply Fr_tellsHeir | with_reducible apply Fr_f1 | with_reducible apply Fr_f2 | with_reducible apply Fr_finds | with_reducible apply Fr_sh | with_reducible apply Fr_setF (by decide) | with_reducible apply Fr_setA (by decide) | with_reducible apply Fr_B))
      clear_value s46
      show mFr ρ s46
      (repeat (first | assumption | with_reducible apply Fr_goes | with_reducible apply Fr_fail | with_reducible apply Fr_refuses | with_reducible apply Fr_refusesBurning | with_reducible apply Fr_mk | with_reducible apply Fr_makes | with_reducible apply Fr_comes | with_reducible apply Fr_burns | with_reducible apply Fr_owes | with_reducible apply Fr_snuffs | with_reducible apply Fr_pools | with_reducible apply Fr_moulds | with_reducible apply Fr_tellsHeir | with_reducible apply Fr_f1 | with_reducible apply Fr_f2 | with_reducible apply Fr_finds | with_reducible apply Fr_sh | with_reducible apply Fr_setF (by decide) | with_reducible apply Fr_setA (by decide) | with_reducible apply Fr_B))
theorem Fr_fr {ρ : mSt} {n h : Nat} {s0 : mSt} (hh : mFr ρ s0) (k : Nat) : mFr ρ (iterN (B_frees n h) s0 k) := by
  refine Fr_it (fun i s hs => ?_) hh _
  unfold B_frees
  dsimp only
  repeat (first | assumption | with_reducible apply Fr_B | with_reducible apply Fr_setA (by decide))
theorem Fr_cl {ρ : mSt} {n h t : Nat} {s0 : mSt} (hh : mFr ρ s0) (k : Nat) : mFr ρ (iterN (B_closes n h t) s0 k) := by
  refine Fr_it (fun i s hs => ?_) hh _
  unfold B_closes
  dsimp only
  repeat (first | assumption | with_reducible apply Fr_B | with_reducible apply Fr_setA (by decide))
theorem Fr_ps {ρ : mSt} {n : Nat} {a : Int32} {s0 : Int32 × mSt} (hh : mFr ρ s0.2) (k : Nat) : mFr ρ (iterN (B_passes n a) s0 k).2 := by
  refine Fr_it2 (fun i s hs => ?_) hh _
  unfold B_passes
  dsimp only
  repeat (first | assumption | with_reducible apply Fr_B | with_reducible apply Fr_setA (by decide))
theorem Fr_inh {ρ : mSt} {h t : Nat} : ∀ d σ s n k, mFr ρ σ → mFr ρ (F_inh h t d σ s n k).1 := by
  intro d
  induction d with
  | zero => intro σ s n k hh; exact hh
  | succ d ih =>
    intro σ s n k hh
    rw [F_inh]
    split
    · split
      · exact ih _ _ _ _ (Fr_goes (Fr_setA (by decide) hh))
      · exact ih _ _ _ _ (Fr_setA (by decide) hh)
    · exact ih _ _ _ _ hh
theorem Fr_frees {ρ σ : mSt} {n h : Nat} (hFr : mFr ρ σ) : mFr ρ (M_frees σ n h) := by
  unfold M_frees
  extract_lets +onlyGivenNames s2
  have h_s2 : mFr ρ s2 := by
    show mFr ρ ((iterN (B_frees n h) σ n))
    (repeat (first | assumption | with_reducible apply Fr_goes | with_reducible apply Fr_fail | with_reducible apply Fr_refuses | with_reducible apply Fr_refusesBurning | with_reducible apply Fr_mk | with_reducible apply Fr_makes | with_reducible apply Fr_comes | with_reducible apply Fr_burns | with_reducible apply Fr_owes | with_reducible apply Fr_snuffs | with_reducible apply Fr_pools | with_reducible apply Fr_moulds | with_reducible apply Fr_tellsHeir | with_reducible apply Fr_f1 | with_reducible apply Fr_f2 | with_reducible apply Fr_finds | with_reducible apply Fr_sh | with_reducible apply Fr_shares | with_reducible apply Fr_fr | with_reducible apply Fr_cl | with_reducible apply Fr_ps | with_reducible apply Fr_inh | with_reducible apply Fr_setF (by decide) | with_reducible apply Fr_setA (by decide) | with_reducible apply Fr_B))
  clear_value s2
  show mFr ρ s2
  (repeat (first | assumption | with_reducible apply Fr_goes | with_reducible apply Fr_fail | with_reducible apply Fr_refuses | with_reducible apply Fr_refusesBurning | with_reducible apply Fr_mk | with_reducible apply Fr_makes | with_reducible apply Fr_comes | with_reducible apply Fr_burns | with_reducible apply Fr_owes | with_reducible apply Fr_snuffs | with_reducible apply Fr_pools | with_reducible apply Fr_moulds | with_reducible apply Fr_tellsHeir | with_reducible apply Fr_f1 | with_reducible apply Fr_f2 | with_reducible apply Fr_finds | with_reducible apply Fr_sh | with_reducible apply Fr_shares | with_reducible apply Fr_fr | with_reducible apply Fr_cl | with_reducible apply Fr_ps | with_reducible apply Fr_inh | with_reducible apply Fr_setF (by decide) | with_reducible apply Fr_setA (by decide) | with_reducible apply Fr_B))
theorem Fr_closes {ρ σ : mSt} {n : Nat} {h : Int32} (hFr : mFr ρ σ) : mFr ρ (M_closes σ n h).2 := by
  unfold M_closes
  refine Fr_B2 ?_ ?_
  · extract_lets +onlyGivenNames s11
    have h_s11 : mFr ρ s11 := by
      show mFr ρ ((M_fail σ (-1011)).2)
      (repeat (first | assumption | with_reducible apply Fr_goes | with_reducible apply Fr_fail | with_reducible apply Fr_refuses | with_reducible apply Fr_refusesBurning | with_reducible apply Fr_mk | with_reducible apply Fr_makes | with_reducible apply Fr_comes | with_reducible apply Fr_burns | with_reducible apply Fr_owes | with_reducible apply Fr_snuffs | with_reducible apply Fr_pools | with_reducible apply Fr_moulds | with_reducible apply Fr_tellsHeir | with_reducible apply Fr_f1 | with_reducible apply Fr_f2 | with_reducible apply Fr_finds | with_reducible apply Fr_sh | with_reducible apply Fr_shares | with_reducible apply Fr_fr | with_reducible apply Fr_cl | with_reducible apply Fr_ps | with_reducible apply Fr_inh | with_reducible apply Fr_frees | with_reducible apply Fr_setF (by decide) | with_reducible apply Fr_setA (by decide) | with_reducible apply Fr_B))
    clear_value s11
    show mFr ρ s11
    (repeat (first | assumption | with_reducible apply Fr_goes | with_reducible apply Fr_fail | with_reducible apply Fr_refuses | with_reducible apply Fr_refusesBurning | with_reducible apply Fr_mk | with_reducible apply Fr_makes | with_reducible apply Fr_comes | with_reducible apply Fr_burns | with_reducible apply Fr_owes | with_reducible apply Fr_snuffs | with_reducible apply Fr_pools | with_reducible apply Fr_moulds | with_reducible apply Fr_tellsHeir | with_reducible apply Fr_f1 | with_reducible apply Fr_f2 | with_reducible apply Fr_finds | with_reducible apply Fr_sh | with_reducible apply Fr_shares | with_reducible apply Fr_fr | with_reducible apply Fr_cl | with_reducible apply Fr_ps | with_reducible apply Fr_inh | with_reducible apply Fr_frees | with_reducible apply Fr_setF (by decide) | with_reducible apply Fr_setA (by decide) | with_reducible apply Fr_B))
  · extract_lets +onlyGivenNames k1
    clear_value k1
    refine Fr_B2 ?_ ?_
    · extract_lets +onlyGivenNames s26
      have h_s26 : mFr ρ s26 := by
        show mFr ρ ((M_refuses σ 2 (nI k1)).2)
        (repeat (first | assumption | with_reducible apply Fr_goes | with_reducible apply Fr_fail | with_reducible apply Fr_refuses | with_reducible apply Fr_refusesBurning | with_reducible apply Fr_mk | with_reducible apply Fr_makes | with_reducible apply Fr_comes | with_reducible apply Fr_burns | with_reducible apply Fr_owes | with_reducible apply Fr_snuffs | with_reducible apply Fr_pools | with_reducible apply Fr_moulds | with_reducible apply Fr_tellsHeir | with_reducible apply Fr_f1 | with_reducible apply Fr_f2 | with_reducible apply Fr_finds | with_reducible apply Fr_sh | with_reducible apply Fr_shares | with_reducible apply Fr_fr | with_reducible apply Fr_cl | with_reducible apply Fr_ps | with_reducible apply Fr_inh | with_reducible apply Fr_frees | with_reducible apply Fr_setF (by decide) | with_reducible apply Fr_setA (by decide) | with_reducible apply Fr_B))
      clear_value s26
      show mFr ρ s26
      (repeat (first | assumption | with_reducible apply Fr_goes | with_reducible apply Fr_fail | with_reducible apply Fr_refuses | with_reducible apply Fr_refusesBurning | with_reducible apply Fr_mk | with_reducible apply Fr_makes | with_reducible apply Fr_comes | with_reducible apply Fr_burns | with_reducible apply Fr_owes | with_reducible apply Fr_snuffs | with_reducible apply Fr_pools | with_reducible apply Fr_moulds | with_reducible apply Fr_tellsHeir | with_reducible apply Fr_f1 | with_reducible apply Fr_f2 | with_reducible apply Fr_finds | with_reducible apply Fr_sh | with_reducible apply Fr_shares | with_reducible apply Fr_fr | with_reducible apply Fr_cl | with_reducible apply Fr_ps | with_reducible apply Fr_inh | with_reducible apply Fr_frees | with_reducible apply Fr_setF (by decide) | with_reducible apply Fr_setA (by decide) | with_reducible apply Fr_B))
    · refine Fr_B2 ?_ ?_
      · extract_lets +onlyGivenNames s42
        have h_s42 : mFr ρ s42 := by
          show mFr ρ ((M_refuses σ 15 (nI k1)).2)
          (repeat (first | assumption | with_reducible apply Fr_goes | with_reducible apply Fr_fail | with_reducible apply Fr_refuses | with_reducible apply Fr_refusesBurning | with_reducible apply Fr_mk | with_reducible apply Fr_makes | with_reducible apply Fr_comes | with_reducible apply Fr_burns | with_reducible apply Fr_owes | with_reducible apply Fr_snuffs | with_reducible apply Fr_pools | with_reducible apply Fr_moulds | with_reducible apply Fr_tellsHeir | with_reducible apply Fr_f1 | with_reducible apply Fr_f2 | with_reducible apply Fr_finds | with_reducible apply Fr_sh | with_reducible apply Fr_shares | with_reducible apply Fr_fr | with_reducible apply Fr_cl | with_reducible apply Fr_ps | with_reducible apply Fr_inh | with_reducible apply Fr_frees | with_reducible apply Fr_setF (by decide) | with_reducible apply Fr_setA (by decide) | with_reducible apply Fr_B))
        clear_value s42
        show mFr ρ s42
        (repeat (first | assumption | with_reducible apply Fr_goes | with_reducible apply Fr_fail | with_reducible apply Fr_refuses | with_reducible apply Fr_refusesBurning | with_reducible apply Fr_mk | with_reducible apply Fr_makes | with_reducible apply Fr_comes | with_reducible apply Fr_burns | with_reducible apply Fr_owes | with_reducible apply Fr_snuffs | with_reducible apply Fr_pools | with_reducible apply Fr_moulds | with_reducible apply Fr_tellsHeir | with_reducible apply Fr_f1 | with_reducible apply Fr_f2 | with_reducible apply Fr_finds | with_reducible apply Fr_sh | with_reducible apply Fr_shares | with_reducible apply Fr_fr | with_reducible apply Fr_cl | with_reducible apply Fr_ps | with_reducible apply Fr_inh | with_reducible apply Fr_frees | with_reducible apply Fr_setF (by decide) | with_reducible apply Fr_setA (by decide) | with_reducible apply Fr_B))
      · extract_lets +onlyGivenNames s62
        have h_s62 : mFr ρ s62 := by
          show mFr ρ (setA σ 9 (6 + 4 * k1 + 0) 0)
          (repeat (first | assumption | with_reducible apply Fr_goes | with_reducible apply Fr_fail | with_reducible apply Fr_refuses | with_reducible apply Fr_refusesBurning | with_reducible apply Fr_mk | with_reducible apply Fr_makes | with_reducible apply Fr_comes | with_reducible apply Fr_burns | with_reducible apply Fr_owes | with_reducible apply Fr_snuffs | with_reducible apply Fr_pools | with_reducible apply Fr_moulds | with_reducible apply Fr_tellsHeir | with_reducible apply Fr_f1 | with_reducible apply Fr_f2 | with_reducible apply Fr_finds | with_reducible apply Fr_sh | with_reducible apply Fr_shares | with_reducible apply Fr_fr | with_reducible apply Fr_cl | with_reducible apply Fr_ps | with_reducible apply Fr_inh | with_reducible apply Fr_frees | with_reducible apply Fr_setF (by decide) | with_reducible apply Fr_setA (by decide) | with_reducible apply Fr_B))
        clear_value s62
        extract_lets +onlyGivenNames s85
        have h_s85 : mFr ρ s85 := by
          show mFr ρ (setA s62 9 (6 + 4 * (F_heir (σ.2 9) k1) + 2) ((s62.2 9 (6 + 4 * (F_heir (σ.2 9) k1) + 2)) + (s62.2 9 (6 + 4 * k1 + 2))))
          (repeat (first | assumption | with_reducible apply Fr_goes | with_reducible apply Fr_fail | with_reducible apply Fr_refuses | with_reducible apply Fr_refusesBurning | with_reducible apply Fr_mk | with_reducible apply Fr_makes | with_reducible apply Fr_comes | with_reducible apply Fr_burns | with_reducible apply Fr_owes | with_reducible apply Fr_snuffs | with_reducible apply Fr_pools | with_reducible apply Fr_moulds | with_reducible apply Fr_tellsHeir | with_reducible apply Fr_f1 | with_reducible apply Fr_f2 | with_reducible apply Fr_finds | with_reducible apply Fr_sh | with_reducible apply Fr_shares | with_reducible apply Fr_fr | with_reducible apply Fr_cl | with_reducible apply Fr_ps | with_reducible apply Fr_inh | with_reducible apply Fr_frees | with_reducible apply Fr_setF (by decide) | with_reducible apply Fr_setA (by decide) | with_reducible apply Fr_B))
        clear_value s85
        extract_lets +onlyGivenNames s108
        have h_s108 : mFr ρ s108 := by
          show mFr ρ (setA s85 9 (6 + 4 * (F_heir (σ.2 9) k1) + 3) ((s85.2 9 (6 + 4 * (F_heir (σ.2 9) k1) + 3)) + (s85.2 9 (6 + 4 * k1 + 3))))
          (repeat (first | assumption | with_reducible apply Fr_goes | with_reducible apply Fr_fail | with_reducible apply Fr_refuses | with_reducible apply Fr_refusesBurning | with_reducible apply Fr_mk | with_reducible apply Fr_makes | with_reducible apply Fr_comes | with_reducible apply Fr_burns | with_reducible apply Fr_owes | with_reducible apply Fr_snuffs | with_reducible apply Fr_pools | with_reducible apply Fr_moulds | with_reducible apply Fr_tellsHeir | with_reducible apply Fr_f1 | with_reducible apply Fr_f2 | with_reducible apply Fr_finds | with_reducible apply Fr_sh | with_reducible apply Fr_shares | with_reducible apply Fr_fr | with_reducible apply Fr_cl | with_reducible apply Fr_ps | with_reducible apply Fr_inh | with_reducible apply Fr_frees | with_reducible apply Fr_setF (by decide) | with_reducible apply Fr_setA (by decide) | with_reducible apply Fr_B))
        clear_value s108
        extract_lets +onlyGivenNames s119
        have h_s119 : mFr ρ s119 := by
          show mFr ρ (setA s108 9 (6 + 4 * k1 + 2) 0)
          (repeat (first | assumption | with_reducible apply Fr_goes | with_reducible apply Fr_fail | with_reducible apply Fr_refuses | with_reducible apply Fr_refusesBurning | with_reducible apply Fr_mk | with_reducible apply Fr_makes | with_reducible apply Fr_comes | with_reducible apply Fr_burns | with_reducible apply Fr_owes | with_reducible apply Fr_snuffs | with_reducible apply Fr_pools | with_reducible apply Fr_moulds | with_reducible apply Fr_tellsHeir | with_reducible apply Fr_f1 | with_reducible apply Fr_f2 | with_reducible apply Fr_finds | with_reducible apply Fr_sh | with_reducible apply Fr_shares | with_reducible apply Fr_fr | with_reducible apply Fr_cl | with_reducible apply Fr_ps | with_reducible apply Fr_inh | with_reducible apply Fr_frees | with_reducible apply Fr_setF (by decide) | with_reducible apply Fr_setA (by decide) | with_reducible apply Fr_B))
        clear_value s119
        extract_lets +onlyGivenNames s130
        have h_s130 : mFr ρ s130 := by
          show mFr ρ (setA s119 9 (6 + 4 * k1 + 3) 0)
          (repeat (first | assumption | with_reducible apply Fr_goes | with_reducible apply Fr_fail | with_reducible apply Fr_refuses | with_reducible apply Fr_refusesBurning | with_reducible apply Fr_mk | with_reducible apply Fr_makes | with_reducible apply Fr_comes | with_reducible apply Fr_burns | with_reducible apply Fr_owes | with_reducible apply Fr_snuffs | with_reducible apply Fr_pools | with_reducible apply Fr_moulds | with_reducible apply Fr_tellsHeir | with_reducible apply Fr_f1 | with_reducible apply Fr_f2 | with_reducible apply Fr_finds | with_reducible apply Fr_sh | with_reducible apply Fr_shares | with_reducible apply Fr_fr | with_reducible apply Fr_cl | with_reducible apply Fr_ps | with_reducible apply Fr_inh | with_reducible apply Fr_frees | with_reducible apply Fr_setF (by decide) | with_reducible apply Fr_setA (by decide) | with_reducible apply Fr_B))
        clear_value s130
        extract_lets +onlyGivenNames s133
        have h_s133 : mFr ρ s133 := by
          show mFr ρ ((iterN (B_closes n k1 (F_heir (σ.2 9) k1)) s130 n))
          (repeat (first | assumption | with_reducible apply Fr_goes | with_reducible apply Fr_fail | with_reducible apply Fr_refuses | with_reducible apply Fr_refusesBurning | with_reducible apply Fr_mk | with_reducible apply Fr_makes | with_reducible apply Fr_comes | with_reducible apply Fr_burns | with_reducible apply Fr_owes | with_reducible apply Fr_snuffs | with_reducible apply Fr_pools | with_reducible apply Fr_moulds | with_reducible apply Fr_tellsHeir | with_reducible apply Fr_f1 | with_reducible apply Fr_f2 | with_reducible apply Fr_finds | with_reducible apply Fr_sh | with_reducible apply Fr_shares | with_reducible apply Fr_fr | with_reducible apply Fr_cl | with_reducible apply Fr_ps | with_reducible apply Fr_inh | with_reducible apply Fr_frees | with_reducible apply Fr_setF (by decide) | with_reducible apply Fr_setA (by decide) | with_reducible apply Fr_B))
        clear_value s133
        extract_lets +onlyGivenNames s222
        have h_s222 : mFr ρ s222 := by
          show mFr ρ ((F_inh k1 (F_heir (σ.2 9) k1) n s133 0 n 0).1)
          (repeat (first | assumption | with_reducible apply Fr_goes | with_reducible apply Fr_fail | with_reducible apply Fr_refuses | with_reducible apply Fr_refusesBurning | with_reducible apply Fr_mk | with_reducible apply Fr_makes | with_reducible apply Fr_comes | with_reducible apply Fr_burns | with_reducible apply Fr_owes | with_reducible apply Fr_snuffs | with_reducible apply Fr_pools | with_reducible apply Fr_moulds | with_reducible apply Fr_tellsHeir | with_reducible apply Fr_f1 | with_reducible apply Fr_f2 | with_reducible apply Fr_finds | with_reducible apply Fr_sh | with_reducible apply Fr_shares | with_reducible apply Fr_fr | with_reducible apply Fr_cl | with_reducible apply Fr_ps | with_reducible apply Fr_inh | with_reducible apply Fr_frees | with_reducible apply Fr_setF (by decide) | with_reducible apply Fr_setA (by decide) | with_reducible apply Fr_B))
        clear_value s222
        extract_lets +onlyGivenNames s225
        have h_s225 : mFr ρ s225 := by
          show mFr ρ (setF s222 16 (nI ((F_inh k1 (F_heir (σ.2 9) k1) n s133 0 n 0).2)))
          (repeat (first | assumption | with_reducible apply Fr_goes | with_reducible apply Fr_fail | with_reducible apply Fr_refuses | with_reducible apply Fr_refusesBurning | with_reducible apply Fr_mk | with_reducible apply Fr_makes | with_reducible apply Fr_comes | with_reducible apply Fr_burns | with_reducible apply Fr_owes | with_reducible apply Fr_snuffs | with_reducible apply Fr_pools | with_reducible apply Fr_moulds | with_reducible apply Fr_tellsHeir | with_reducible apply Fr_f1 | with_reducible apply Fr_f2 | with_reducible apply Fr_finds | with_reducible apply Fr_sh | with_reducible apply Fr_shares | with_reducible apply Fr_fr | with_reducible apply Fr_cl | with_reducible apply Fr_ps | with_reducible apply Fr_inh | with_reducible apply Fr_frees | with_reducible apply Fr_setF (by decide) | with_reducible apply Fr_setA (by decide) | with_reducible apply Fr_B))
        clear_value s225
        extract_lets +onlyGivenNames n5
        clear_value n5
        extract_lets +onlyGivenNames s230
        have h_s230 : mFr ρ s230 := by
          show mFr ρ (M_frees s225 n5 (F_heir (σ.2 9) k1))
          (repeat (first | assumption | with_reducible apply Fr_goes | with_reducible apply Fr_fail | with_reducible apply Fr_refuses | with_reducible apply Fr_refusesBurning | with_reducible apply Fr_mk | with_reducible apply Fr_makes | with_reducible apply Fr_comes | with_reducible apply Fr_burns | with_reducible apply Fr_owes | with_reducible apply Fr_snuffs | with_reducible apply Fr_pools | with_reducible apply Fr_moulds | with_reducible apply Fr_tellsHeir | with_reducible apply Fr_f1 | with_reducible apply Fr_f2 | with_reducible apply Fr_finds | with_reducible apply Fr_sh | with_reducible apply Fr_shares | with_reducible apply Fr_fr | with_reducible apply Fr_cl | with_reducible apply Fr_ps | with_reducible apply Fr_inh | with_reducible apply Fr_frees | with_reducible apply Fr_setF (by decide) | with_reducible apply Fr_setA (by decide) | with_reducible apply Fr_B))
        clear_value s230
        show mFr ρ s230
        (repeat (first | assumption | with_reducible apply Fr_goes | with_reducible apply Fr_fail | with_reducible apply Fr_refuses | with_reducible apply Fr_refusesBurning | with_reducible apply Fr_mk | with_reducible apply Fr_makes | with_reducible apply Fr_comes | with_reducible apply Fr_burns | with_reducible apply Fr_owes | with_reducible apply Fr_snuffs | with_reducible apply Fr_pools | with_reducible apply Fr_moulds | with_reducible apply Fr_tellsHeir | with_reducible apply Fr_f1 | with_reducible apply Fr_f2 | with_reducible apply Fr_finds | with_reducible apply Fr_sh | with_reducible apply Fr_shares | with_reducible apply Fr_fr | with_reducible apply Fr_cl | with_reducible apply Fr_ps | with_reducible apply Fr_inh | with_reducible apply Fr_frees | with_reducible apply Fr_setF (by decide) | with_reducible apply Fr_setA (by decide) | with_reducible apply Fr_B))
theorem Fr_passes {ρ σ : mSt} {n : Nat} {a : Int32} (hFr : mFr ρ σ) : mFr ρ (M_passes σ n a).2 := by
  unfold M_passes
  refine Fr_B2 ?_ ?_
  · extract_lets +onlyGivenNames s14
    have h_s14 : mFr ρ s14 := by
      show mFr ρ ((M_fail σ (-1012)).2)
      (repeat (first | assumption | with_reducible apply Fr_goes | with_reducible apply Fr_fail | with_reducible apply Fr_refuses | with_reducible apply Fr_refusesBurning | with_reducible apply Fr_mk | with_reducible apply Fr_makes | with_reducible apply Fr_comes | with_reducible apply Fr_burns | with_reducible apply Fr_owes | with_reducible apply Fr_snuffs | with_reducible apply Fr_pools | with_reducible apply Fr_moulds | with_reducible apply Fr_tellsHeir | with_reducible apply Fr_f1 | with_reducible apply Fr_f2 | with_reducible apply Fr_finds | with_reducible apply Fr_sh | with_reducible apply Fr_shares | with_reducible apply Fr_fr | with_reducible apply Fr_cl | with_reducible apply Fr_ps | with_reducible apply Fr_inh | with_reducible apply Fr_frees | with_reducible apply Fr_closes | with_reducible apply Fr_setF (by decide) | with_reducible apply Fr_setA (by decide) | with_reducible apply Fr_B))
    clear_value s14
    show mFr ρ s14
    (repeat (first | assumption | with_reducible apply Fr_goes | with_reducible apply Fr_fail | with_reducible apply Fr_refuses | with_reducible apply Fr_refusesBurning | with_reducible apply Fr_mk | with_reducible apply Fr_makes | with_reducible apply Fr_comes | with_reducible apply Fr_burns | with_reducible apply Fr_owes | with_reducible apply Fr_snuffs | with_reducible apply Fr_pools | with_reducible apply Fr_moulds | with_reducible apply Fr_tellsHeir | with_reducible apply Fr_f1 | with_reducible apply Fr_f2 | with_reducible apply Fr_finds | with_reducible apply Fr_sh | with_reducible apply Fr_shares | with_reducible apply Fr_fr | with_reducible apply Fr_cl | with_reducible apply Fr_ps | with_reducible apply Fr_inh | with_reducible apply Fr_frees | with_reducible apply Fr_closes | with_reducible apply Fr_setF (by decide) | with_reducible apply Fr_setA (by decide) | with_reducible apply Fr_B))
  · extract_lets +onlyGivenNames s22
    have h_s22 : mFr ρ s22 := by
      show mFr ρ ((iterN (B_passes n a) (0, σ) n).2)
      (repeat (first | assumption | with_reducible apply Fr_goes | with_reducible apply Fr_fail | with_reducible apply Fr_refuses | with_reducible apply Fr_refusesBurning | with_reducible apply Fr_mk | with_reducible apply Fr_makes | with_reducible apply Fr_comes | with_reducible apply Fr_burns | with_reducible apply Fr_owes | with_reducible apply Fr_snuffs | with_reducible apply Fr_pools | with_reducible apply Fr_moulds | with_reducible apply Fr_tellsHeir | with_reducible apply Fr_f1 | with_reducible apply Fr_f2 | with_reducible apply Fr_finds | with_reducible apply Fr_sh | with_reducible apply Fr_shares | with_reducible apply Fr_fr | with_reducible apply Fr_cl | with_reducible apply Fr_ps | with_reducible apply Fr_inh | with_reducible apply Fr_frees | with_reducible apply Fr_closes | with_reducible apply Fr_setF (by decide) | with_reducible apply Fr_setA (by decide) | with_reducible apply Fr_B))
    clear_value s22
    extract_lets +onlyGivenNames s160
    have h_s160 : mFr ρ s160 := by
      show mFr ρ (setA s22 9 5 ((s22.2 9 5) + a))
      (repeat (first | assumption | with_reducible apply Fr_goes | with_reducible apply Fr_fail | with_reducible apply Fr_refuses | with_reducible apply Fr_refusesBurning | with_reducible apply Fr_mk | with_reducible apply Fr_makes | with_reducible apply Fr_comes | with_reducible apply Fr_burns | with_reducible apply Fr_owes | with_reducible apply Fr_snuffs | with_reducible apply Fr_pools | with_reducible apply Fr_moulds | with_reducible apply Fr_tellsHeir | with_reducible apply Fr_f1 | with_reducible apply Fr_f2 | with_reducible apply Fr_finds | with_reducible apply Fr_sh | with_reducible apply Fr_shares | with_reducible apply Fr_fr | with_reducible apply Fr_cl | with_reducible apply Fr_ps | with_reducible apply Fr_inh | with_reducible apply Fr_frees | with_reducible apply Fr_closes | with_reducible apply Fr_setF (by decide) | with_reducible apply Fr_setA (by decide) | with_reducible apply Fr_B))
    clear_value s160
    show mFr ρ s160
    (repeat (first | assumption | with_reducible apply Fr_goes | with_reducible apply Fr_fail | with_reducible apply Fr_refuses | with_reducible apply Fr_refusesBurning | with_reducible apply Fr_mk | with_reducible apply Fr_makes | with_reducible apply Fr_comes | with_reducible apply Fr_burns | with_reducible apply Fr_owes | with_reducible apply Fr_snuffs | with_reducible apply Fr_pools | with_reducible apply Fr_moulds | with_reducible apply Fr_tellsHeir | with_reducible apply Fr_f1 | with_reducible apply Fr_f2 | with_reducible apply Fr_finds | with_reducible apply Fr_sh | with_reducible apply Fr_shares | with_reducible apply Fr_fr | with_reducible apply Fr_cl | with_reducible apply Fr_ps | with_reducible apply Fr_inh | with_reducible apply Fr_frees | with_reducible apply Fr_closes | with_reducible apply Fr_setF (by decide) | with_reducible apply Fr_setA (by decide) | with_reducible apply Fr_B))
