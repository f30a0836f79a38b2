set_option maxRecDepth 100000
theorem lays_v {j1 j2 : Nat} {s : mSt} (h : j1 ≠ 9) : ∀ i, (iterN (B_lays j1 j2) s i).2 9 = s.2 9 := by
  intro i
  induction i with
  | zero => rfl
  | succ i ih =>
    rw [iterN_s]
    show (if 9 = j1 then _ else _) = _
    rw [if_neg (Ne.symm h)]
    exact ih
theorem I_begins {σ : mSt} {n : Nat} (I : MI (σ.2 9) n) : MI ((M_begins σ).2 9) n := by
  show MI ((iterN (B_lays 10 9) (setF σ 0 0) 126).2 9) n
  rw [lays_v (by decide)]
  exact I
theorem MI_of {v : Nat → Int32} {n s : Nat} (I : MI v n) (hs : s < n) : v (30 + 8 * s + 0) = nI (v (30 + 8 * s + 0)).toNatClampNeg ∧ (v (30 + 8 * s + 0)).toNatClampNeg < 6 := by
  obtain ⟨j, hj, e⟩ := I.2.2.2.1 s hs
  rw [e, nI_clamp (by omega)]
  exact ⟨rfl, hj⟩
theorem MI_he {v : Nat → Int32} {n s : Nat} (I : MI v n) (hs : s < 6) : v (6 + 4 * s + 1) = nI (v (6 + 4 * s + 1)).toNatClampNeg ∧ (v (6 + 4 * s + 1)).toNatClampNeg < 6 := by
  obtain ⟨j, hj, e⟩ := I.2.2.1 s hs
  rw [e, nI_clamp (by omega)]
  exact ⟨rfl, hj⟩
theorem zIn_e {x : Int32} {b : Nat} (hb : b < 2147483648) (c : ¬ M_isIn x 0 (nI b) = 0) : x = nI x.toNatClampNeg ∧ x.toNatClampNeg < b + 1 := by
  obtain ⟨h1, h2⟩ := isIn_e (x := x) (l := 0) (h := nI b) c
  obtain ⟨j, hj, rfl⟩ := nI_of2 (x := x) (M := nI b) (n := b) (nI_toInt (by omega)) h1 (k2_le h2)
  rw [nI_clamp (by omega)]
  exact ⟨rfl, by omega⟩

def B_ends1 (a : Int32) (i : Nat) (s : mSt) : mSt :=
  let s55 := setA s 13 i (s.2 13 (i + 126))
  s55
set_option maxHeartbeats 4000000 in
theorem ml_ends1 {X : zX} {w : zWd} {m : Nat} {ad : Nat → Nat} {h0 : zH} {P : Option Value → zH → Prop} {PX : Nat → zH → Prop} (a : Int32)  (s0 : mSt)  (E : zOK X w RX4 cX4_ends 3 1 22 [] (some .int) "ends") (kx : Z X w 3 (zQ X w P PX) (mS m ad h0 ((iterN (B_ends1 a) s0 882))) 0 0 [(0, .ref m), (1, .int a), (2, .int (nI 882))] 62 []) : ∀ d i, i + d = 882 → Z X w 3 (zQ X w P PX) (mS m ad h0 ((iterN (B_ends1 a) s0 i))) 0 0 [(0, .ref m), (1, .int a), (2, .int (nI i))] 34 [] := by
  intro d
  induction d with
  | zero =>
    intro i hi
    have hi : i = 882 := by omega
    rw [hi]
    refine z_iload_n E dX4_ends_34 rfl 2 rfl ?_
    refine z_sipush (v := 882) E dX4_ends_35 (by decide) ?_
    refine z_icmp_geN (a := 882) (b := 882) (tgt := 62) E (by omega) (by omega) dX4_ends_38 (by decide) (fun c38 => ?_) (fun c38 => absurd c38 (by omega))
    exact kx
  | succ d ih =>
    intro i hi
    have ih1 := ih (i + 1) (by omega)
    rw [iterN_s] at ih1
    generalize hs : iterN (B_ends1 a) s0 i = s at ih1  ⊢
    refine z_iload_n E dX4_ends_34 rfl 2 rfl ?_
    refine z_sipush (v := 882) E dX4_ends_35 (by decide) ?_
    refine z_icmp_geN (a := i) (b := 882) (tgt := 62) E (by omega) (by omega) dX4_ends_38 (by decide) (fun c38 => absurd c38 (by omega)) (fun c38 => ?_)
    refine z_aload_n E dX4_ends_41 rfl 0 rfl ?_
    refine m_get E 13 (by decide) rfl q1683 rfl dX4_ends_42 ?_
    refine z_iload_n E dX4_ends_45 rfl 2 rfl ?_
    refine z_aload_n E dX4_ends_46 rfl 0 rfl ?_
    refine m_get E 13 (by decide) rfl q1683 rfl dX4_ends_47 ?_
    refine z_iload_n E dX4_ends_50 rfl 2 rfl ?_
    refine z_bipush (v := 126) E dX4_ends_51 (by decide) ?_
    refine z_iaddN (a := i) (b := 126) E dX4_ends_53 ?_
    refine m_ald E (j := 13) (q := i + 126) (by decide) (by show _ < 1008; omega) (by omega) dX4_ends_54 ?_
    refine m_ast E (j := 13) (q := i) (by decide) (by show _ < 1008; omega) (by omega) dX4_ends_55 ?_
    generalize hs55 : setA s 13 i (s.2 13 (i + 126)) = s55
    refine z_iinc (v := nI (i + 1)) (lv' := [(2, .int (nI (i + 1))), (0, .ref m), (1, .int a)]) E dX4_ends_56 (j := 2) rfl (nI_add _ 1) (by decide) rfl ?_
    refine z_goto (tgt := 34) E dX4_ends_59 (by decide) ?_
    refine z_sub (lv' := [(0, .ref m), (1, .int a), (2, .int (nI (i + 1)))]) [1, 2, 0] rfl ?_
    subst hs55
    exact ih1
def B_ends2 (c : Nat) (a : Int32) (i : Nat) (s : mSt) : mSt :=
  let s99 := setA s 13 ((c * 126) + i) (s.2 10 i)
  s99
set_option maxHeartbeats 4000000 in
theorem ml_ends2 {X : zX} {w : zWd} {m : Nat} {ad : Nat → Nat} {h0 : zH} {P : Option Value → zH → Prop} {PX : Nat → zH → Prop} (c : Nat) (a : Int32) (hc8 : c < 8) (s0 : mSt) (hv0 : ∀ i, (iterN (B_ends2 c a) s0 i).1 1 = nI c) (E : zOK X w RX4 cX4_ends 3 1 22 [] (some .int) "ends") (kx : Z X w 3 (zQ X w P PX) (mS m ad h0 ((iterN (B_ends2 c a) s0 126))) 0 0 [(0, .ref m), (1, .int a), (2, .int (nI 126))] 106 []) : ∀ d i, i + d = 126 → Z X w 3 (zQ X w P PX) (mS m ad h0 ((iterN (B_ends2 c a) s0 i))) 0 0 [(0, .ref m), (1, .int a), (2, .int (nI i))] 74 [] := by
  intro d
  induction d with
  | zero =>
    intro i hi
    have hi : i = 126 := by omega
    rw [hi]
    refine z_iload_n E dX4_ends_74 rfl 2 rfl ?_
    refine z_bipush (v := 126) E dX4_ends_75 (by decide) ?_
    refine z_icmp_geN (a := 126) (b := 126) (tgt := 106) E (by omega) (by omega) dX4_ends_77 (by decide) (fun c77 => ?_) (fun c77 => absurd c77 (by omega))
    exact kx
  | succ d ih =>
    intro i hi
    have ih1 := ih (i + 1) (by omega)
    have hv := hv0 i
    rw [iterN_s] at ih1
    generalize hs : iterN (B_ends2 c a) s0 i = s at ih1 hv ⊢
    refine z_iload_n E dX4_ends_74 rfl 2 rfl ?_
    refine z_bipush (v := 126) E dX4_ends_75 (by decide) ?_
    refine z_icmp_geN (a := i) (b := 126) (tgt := 106) E (by omega) (by omega) dX4_ends_77 (by decide) (fun c77 => absurd c77 (by omega)) (fun c77 => ?_)
    refine z_aload_n E dX4_ends_80 rfl 0 rfl ?_
    refine m_get E 13 (by decide) rfl q1683 rfl dX4_ends_81 ?_
    refine z_aload_n E dX4_ends_84 rfl 0 rfl ?_
    refine m_get E 1 (by decide) rfl q1671 rfl dX4_ends_85 ?_
    refine z_top (hv) ?_
    refine z_bipush (v := 126) E dX4_ends_88 (by decide) ?_
    refine z_imulN (a := c) (b := 126) E dX4_ends_90 ?_
    refine z_iload_n E dX4_ends_91 rfl 2 rfl ?_
    refine z_iaddN (a := c * 126) (b := i) E dX4_ends_92 ?_
    refine z_aload_n E dX4_ends_93 rfl 0 rfl ?_
    refine m_get E 10 (by decide) rfl q1680 rfl dX4_ends_94 ?_
    refine z_iload_n E dX4_ends_97 rfl 2 rfl ?_
    refine m_ald E (j := 10) (q := i) (by decide) (by show _ < 126; omega) (by omega) dX4_ends_98 ?_
    refine m_ast E (j := 13) (q := (c * 126) + i) (by decide) (by show _ < 1008; omega) (by omega) dX4_ends_99 ?_
    generalize hs99 : setA s 13 ((c * 126) + i) (s.2 10 i) = s99
    refine z_iinc (v := nI (i + 1)) (lv' := [(2, .int (nI (i + 1))), (0, .ref m), (1, .int a)]) E dX4_ends_100 (j := 2) rfl (nI_add _ 1) (by decide) rfl ?_
    refine z_goto (tgt := 74) E dX4_ends_103 (by decide) ?_
    refine z_sub (lv' := [(0, .ref m), (1, .int a), (2, .int (nI (i + 1)))]) [1, 2, 0] rfl ?_
    subst hs99
    exact ih1
theorem iv_ends1 {a : Int32} {s0 : mSt} : ∀ i, (iterN (B_ends1 a) s0 i).1 = s0.1 := by
  intro i
  induction i with
  | zero => rfl
  | succ i ih => rw [iterN_s]; exact ih
theorem iv_ends2 {c : Nat} {a : Int32} {s0 : mSt} : ∀ i, (iterN (B_ends2 c a) s0 i).1 1 = s0.1 1 := by
  intro i
  induction i with
  | zero => rfl
  | succ i ih => rw [iterN_s]; exact ih
theorem ends_c {σ : mSt} {c : Nat} {a : Int32} (hc : σ.1 1 = nI c) (hc8 : c ≤ 8) : (if σ.1 1 = 8 then setF (iterN (B_ends1 a) σ 882) 1 ((iterN (B_ends1 a) σ 882).1 1 - 1) else σ).1 1 = nI (if c = 8 then 7 else c) := by
  by_cases e : c = 8
  · subst e
    rw [if_pos (by rw [hc]; decide), if_pos rfl, setF_1, if_pos rfl, iv_ends1, hc]
    decide
  · rw [if_neg (fun z => e ?_), if_neg e]
    · exact hc
    · rw [hc] at z
      exact (nI_eq (a := c) (b := 8) (by omega) (by decide)).mp z

theorem cv_X4_ends : zCV yX4_ends RX4 cX4_ends 3 (some .int) 1 := ⟨⟨q1795, qs42, q95, q1796⟩, by decide +kernel⟩
def M_ends (σ : mSt) (c : Nat) (a : Int32) : Int32 × mSt :=
  if (σ.1 0) = 0 then
    let s72 := if (σ.1 1) = 8 then (setF ((iterN (B_ends1 a) σ 882)) 1 ((((iterN (B_ends1 a) σ 882)).1 1) - 1)) else σ
    let s74 := (iterN (B_ends2 (if c = 8 then 7 else c) a) s72 126)
    let s113 := setF s74 1 ((s74.1 1) + 1)
    (a, s113)
  else
    let s15 := M_lays σ 9 10
    (s15.1 0, s15)
set_option maxHeartbeats 4000000 in
theorem mb_X4_ends {X : zX} {w : zWd} {m : Nat} {ad : Nat → Nat} {h0 : zH} {σ : mSt} {P : Option Value → zH → Prop} {PX : Nat → zH → Prop} (c : Nat) (a : Int32) (hc : σ.1 1 = nI c) (hc8 : c ≤ 8) (E : zOK X w RX4 cX4_ends 3 1 22 [] (some .int) "ends") (hP : ∀ r9 s9 h9, (r9, s9) = M_ends σ c a → mS m ad h0 s9 h9 → P (some (.int r9)) h9) : Z X w 3 (zQ X w P PX) (mS m ad h0 σ) 0 0 [(0, .ref m), (1, .int a)] 0 [] := by
  refine z_aload_n E dX4_ends_0 rfl 0 rfl ?_
  refine m_get E 0 (by decide) rfl q1670 rfl dX4_ends_1 ?_
  refine z_if_eq (tgt := 23) E dX4_ends_4 (by decide) (fun c4 => ?_) (fun c4 => ?_)
  · refine z_aload_n E dX4_ends_23 rfl 0 rfl ?_
    refine m_get E 1 (by decide) rfl q1671 rfl dX4_ends_24 ?_
    refine z_bipush (v := 8) E dX4_ends_27 (by decide) ?_
    have J29 : ∀ (j29_0 : mSt), j29_0 = (if (σ.1 1) = 8 then (setF ((iterN (B_ends1 a) σ 882)) 1 ((((iterN (B_ends1 a) σ 882)).1 1) - 1)) else σ) → Z X w 3 (zQ X w P PX) (mS m ad h0 j29_0) 0 0 [(0, .ref m), (1, .int a)] 72 [] := by
      intro j29_0 ej29_0
      subst ej29_0
      generalize hs72 : (if (σ.1 1) = 8 then (setF ((iterN (B_ends1 a) σ 882)) 1 ((((iterN (B_ends1 a) σ 882)).1 1) - 1)) else σ) = s72
      have h72 : s72.1 1 = nI (if c = 8 then 7 else c) := by rw [← hs72]; exact ends_c hc hc8
      refine z_iconst (v := 0) E dX4_ends_72 (by decide) ?_
      refine z_istore_n (lv' := [(2, .int 0), (0, .ref m), (1, .int a)]) E dX4_ends_73 rfl (by decide) rfl ?_
      refine z_sub (lv' := [(0, .ref m), (1, .int a), (2, .int 0)]) [1, 2, 0] rfl ?_
      refine ml_ends2 (if c = 8 then 7 else c) a (by split <;> omega) s72 (fun i => by rw [iv_ends2, h72]) E ?_ 126 0 (by omega)
      generalize hs74 : (iterN (B_ends2 (if c = 8 then 7 else c) a) s72 126) = s74
      refine z_aload_n E dX4_ends_106 rfl 0 rfl ?_
      refine z_dup E dX4_ends_107 rfl ?_
      refine m_get E 1 (by decide) rfl q1671 rfl dX4_ends_108 ?_
      refine z_iconst (v := 1) E dX4_ends_111 (by decide) ?_
      refine z_iadd E dX4_ends_112 ?_
      refine m_put E 1 (by decide) q1671 rfl rfl (ty := .int) rfl rfl rfl mset_1 dX4_ends_113 ?_
      generalize hs113 : setF s74 1 ((s74.1 1) + 1) = s113
      refine z_iload_n E dX4_ends_116 rfl 1 rfl ?_
      exact z_iret E dX4_ends_117 (fun h9 q9 => hP _ _ h9 (by subst hs113 hs74 hs72; unfold M_ends; dsimp only; rw [if_pos c4]) q9)
    refine z_icmp_ne (tgt := 72) E dX4_ends_29 (by decide) (fun c29 => ?_) (fun c29 => ?_)
    · exact J29 _ ((if_neg c29).symm)
    · refine z_iconst (v := 0) E dX4_ends_32 (by decide) ?_
      refine z_istore_n (lv' := [(2, .int 0), (0, .ref m), (1, .int a)]) E dX4_ends_33 rfl (by decide) rfl ?_
      refine z_sub (lv' := [(0, .ref m), (1, .int a), (2, .int 0)]) [1, 2, 0] rfl ?_
      refine ml_ends1 a  σ  E ?_ 882 0 (by omega)
      generalize hs34 : (iterN (B_ends1 a) σ 882) = s34
      refine z_aload_n E dX4_ends_62 rfl 0 rfl ?_
      refine z_dup E dX4_ends_63 rfl ?_
      refine m_get E 1 (by decide) rfl q1671 rfl dX4_ends_64 ?_
      refine z_iconst (v := 1) E dX4_ends_67 (by decide) ?_
      refine z_isub E dX4_ends_68 ?_
      refine m_put E 1 (by decide) q1671 rfl rfl (ty := .int) rfl rfl rfl mset_1 dX4_ends_69 ?_
      generalize hs69 : setF s34 1 ((s34.1 1) - 1) = s69
      subst hs69 hs34
      refine z_sub (lv' := [(0, .ref m), (1, .int a)]) [0, 1] rfl ?_
      exact J29 _ ((if_pos c29).symm)
  · refine z_aload_n E dX4_ends_7 rfl 0 rfl ?_
    refine m_get E 9 (by decide) rfl q1679 rfl dX4_ends_8 ?_
    refine z_aload_n E dX4_ends_11 rfl 0 rfl ?_
    refine m_get E 10 (by decide) rfl q1680 rfl dX4_ends_12 ?_
    refine z_callSv E (rest := []) (k' := 0) (n' := 0) cs_X4_lays (mm_X4_lays (σ := σ) 9 10 (by decide) (by decide) rfl rfl) q1754 rfl rfl (Nat.le_of_ble_eq_true rfl) (Nat.le_of_ble_eq_true rfl) (Nat.le_of_ble_eq_true rfl) dX4_ends_15 (Nat.le_refl _) (Nat.le_refl _) ?_
    generalize hs15 : M_lays σ 9 10 = s15
    refine z_aload_n E dX4_ends_18 rfl 0 rfl ?_
    refine m_get E 0 (by decide) rfl q1670 rfl dX4_ends_19 ?_
    exact z_iret E dX4_ends_22 (fun h9 q9 => hP _ _ h9 (by subst hs15; unfold M_ends; dsimp only; rw [if_neg c4]) q9)
theorem mm_X4_ends {l : Launch} {w : zWd} {m : Nat} {ad : Nat → Nat} {h0 : zH} {σ : mSt} (c : Nat) (a : Int32) (hc : σ.1 1 = nI c) (hc8 : c ≤ 8) : ZM l w yX4_ends (ws_ yX4_ends cX4_ends 3 (some .int)) 1 22 0 0 [.ref m, .int a] (mS m ad h0 σ) (zri (M_ends σ c a).1 (mS m ad h0 (M_ends σ c a).2)) zno :=
  zm_of (by decide) rfl (Nat.le_of_ble_eq_true rfl) (fun X _ E => mb_X4_ends c a hc hc8 E (fun r s h e q => by rw [← e]; exact ⟨rfl, q⟩))
def B_goes (q : Nat) (i : Nat) (s : mSt) : mSt :=
  let s39 := setA s 9 (30 + 8 * q + 0 + i) (if 126 ≤ ((30 + 8 * q + 0 + i) + 8) then ((0 : Int32)) else (s.2 9 ((30 + 8 * q + 0 + i) + 8)))
  s39
set_option maxHeartbeats 4000000 in
theorem ml_goes {X : zX} {w : zWd} {m : Nat} {ad : Nat → Nat} {h0 : zH} {P : Option Value → zH → Prop} {PX : Nat → zH → Prop} (q : Nat) (hq : q < 12) (s0 : mSt)  (E : zOK X w RX4 cX4_goes 3 1 21 [] none "goes") (kx : Z X w 3 (zQ X w P PX) (mS m ad h0 ((iterN (B_goes q) s0 (96 - 8 * q)))) 0 0 [(0, .ref m), (1, .int (nI q)), (2, .int (nI (30 + 8 * q + 0 + (96 - 8 * q))))] 46 []) : ∀ d i, i + d = 96 - 8 * q → Z X w 3 (zQ X w P PX) (mS m ad h0 ((iterN (B_goes q) s0 i))) 0 0 [(0, .ref m), (1, .int (nI q)), (2, .int (nI (30 + 8 * q + 0 + i)))] 6 [] := by
  intro d
  induction d with
  | zero =>
    intro i hi
    have hi : i = 96 - 8 * q := by omega
    rw [hi]
    refine z_iload_n E dX4_goes_6 rfl 2 rfl ?_
    refine z_bipush (v := 126) E dX4_goes_7 (by decide) ?_
    refine z_icmp_geN (a := 30 + 8 * q + 0 + (96 - 8 * q)) (b := 126) (tgt := 46) E (by omega) (by omega) dX4_goes_9 (by decide) (fun c9 => ?_) (fun c9 => absurd c9 (by omega))
    exact kx
  | succ d ih =>
    intro i hi
    have ih1 := ih (i + 1) (by omega)
    rw [iterN_s] at ih1
    generalize hs : iterN (B_goes q) s0 i = s at ih1  ⊢
    refine z_iload_n E dX4_goes_6 rfl 2 rfl ?_
    refine z_bipush (v := 126) E dX4_goes_7 (by decide) ?_
    refine z_icmp_geN (a := 30 + 8 * q + 0 + i) (b := 126) (tgt := 46) E (by omega) (by omega) dX4_goes_9 (by decide) (fun c9 => absurd c9 (by omega)) (fun c9 => ?_)
    refine z_aload_n E dX4_goes_12 rfl 0 rfl ?_
    refine m_get E 9 (by decide) rfl q1679 rfl dX4_goes_13 ?_
    refine z_iload_n E dX4_goes_16 rfl 2 rfl ?_
    refine z_iload_n E dX4_goes_17 rfl 2 rfl ?_
    refine z_bipush (v := 8) E dX4_goes_18 (by decide) ?_
    refine z_iaddN (a := 30 + 8 * q + 0 + i) (b := 8) E dX4_goes_20 ?_
    refine z_bipush (v := 126) E dX4_goes_21 (by decide) ?_
    have J23 : ∀ (j23_0 : Int32), j23_0 = (if 126 ≤ ((30 + 8 * q + 0 + i) + 8) then ((0 : Int32)) else (s.2 9 ((30 + 8 * q + 0 + i) + 8))) → Z X w 3 (zQ X w P PX) (mS m ad h0 s) 0 0 [(0, .ref m), (1, .int (nI q)), (2, .int (nI (30 + 8 * q + 0 + i)))] 39 [.int j23_0, .int (nI (30 + 8 * q + 0 + i)), .ref (ad 9)] := by
      intro j23_0 ej23_0
      subst ej23_0
      refine m_ast E (j := 9) (q := 30 + 8 * q + 0 + i) (by decide) (by show _ < 126; omega) (by omega) dX4_goes_39 ?_
      generalize hs39 : setA s 9 (30 + 8 * q + 0 + i) (if 126 ≤ ((30 + 8 * q + 0 + i) + 8) then ((0 : Int32)) else (s.2 9 ((30 + 8 * q + 0 + i) + 8))) = s39
      refine z_iinc (v := nI (30 + 8 * q + 0 + i + 1)) (lv' := [(2, .int (nI (30 + 8 * q + 0 + i + 1))), (0, .ref m), (1, .int (nI q))]) E dX4_goes_40 (j := 2) rfl (nI_add _ 1) (by decide) rfl ?_
      refine z_goto (tgt := 6) E dX4_goes_43 (by decide) ?_
      refine z_sub (lv' := [(0, .ref m), (1, .int (nI q)), (2, .int (nI (30 + 8 * q + 0 + i + 1)))]) [1, 2, 0] rfl ?_
      subst hs39
      exact ih1
    refine z_icmp_geN (a := (30 + 8 * q + 0 + i) + 8) (b := 126) (tgt := 38) E (by omega) (by omega) dX4_goes_23 (by decide) (fun c23 => ?_) (fun c23 => ?_)
    · refine z_iconst (v := 0) E dX4_goes_38 (by decide) ?_
      exact J23 _ ((if_pos c23).symm)
    · refine z_aload_n E dX4_goes_26 rfl 0 rfl ?_
      refine m_get E 9 (by decide) rfl q1679 rfl dX4_goes_27 ?_
      refine z_iload_n E dX4_goes_30 rfl 2 rfl ?_
      refine z_bipush (v := 8) E dX4_goes_31 (by decide) ?_
      refine z_iaddN (a := 30 + 8 * q + 0 + i) (b := 8) E dX4_goes_33 ?_
      refine m_ald E (j := 9) (q := (30 + 8 * q + 0 + i) + 8) (by decide) (by show _ < 126; omega) (by omega) dX4_goes_34 ?_
      refine z_goto (tgt := 39) E dX4_goes_35 (by decide) ?_
      exact J23 _ ((if_neg (Nat.not_le.mpr c23)).symm)
theorem cv_X4_goes : zCV yX4_goes RX4 cX4_goes 3 none 1 := ⟨⟨q1815, qs46, q95, q1816⟩, by decide +kernel⟩
def M_goes (σ : mSt) (q : Nat) : mSt :=
  let s6 := (iterN (B_goes q) σ (96 - 8 * q))
  let s55 := setA s6 9 0 ((s6.2 9 0) - 1)
  s55
set_option maxHeartbeats 4000000 in
theorem mb_X4_goes {X : zX} {w : zWd} {m : Nat} {ad : Nat → Nat} {h0 : zH} {σ : mSt} {P : Option Value → zH → Prop} {PX : Nat → zH → Prop} (q : Nat) (hq : q < 12) (E : zOK X w RX4 cX4_goes 3 1 21 [] none "goes") (hP : ∀ s9 h9, s9 = M_goes σ q → mS m ad h0 s9 h9 → P none h9) : Z X w 3 (zQ X w P PX) (mS m ad h0 σ) 0 0 [(0, .ref m), (1, .int (nI q))] 0 [] := by
  refine z_iload_n E dX4_goes_0 rfl 1 rfl ?_
  refine z_iconst (v := 0) E dX4_goes_1 (by decide) ?_
  refine z_callSi E (rest := []) (k' := 0) (n' := 0) cs_X4_in (mm_X4_in q 0) q1790 rfl rfl (Nat.le_of_ble_eq_true rfl) (Nat.le_of_ble_eq_true rfl) (Nat.le_of_ble_eq_true rfl) dX4_goes_2 (Nat.le_refl _) (Nat.le_refl _) ?_
  refine z_istore_n (lv' := [(2, .int (nI (30 + 8 * q + 0))), (0, .ref m), (1, .int (nI q))]) E dX4_goes_5 rfl (by decide) rfl ?_
  refine z_sub (lv' := [(0, .ref m), (1, .int (nI q)), (2, .int (nI (30 + 8 * q + 0)))]) [1, 2, 0] rfl ?_
  refine ml_goes q hq σ  E ?_ (96 - 8 * q) 0 (by omega)
  generalize hs6 : (iterN (B_goes q) σ (96 - 8 * q)) = s6
  refine z_aload_n E dX4_goes_46 rfl 0 rfl ?_
  refine m_get E 9 (by decide) rfl q1679 rfl dX4_goes_47 ?_
  refine z_iconst (v := 0) E dX4_goes_50 (by decide) ?_
  refine z_dup2_11 E dX4_goes_51 rfl rfl ?_
  refine m_ald E (j := 9) (q := 0) (by decide) (by show _ < 126; omega) (by omega) dX4_goes_52 ?_
  refine z_iconst (v := 1) E dX4_goes_53 (by decide) ?_
  refine z_isub E dX4_goes_54 ?_
  refine m_ast E (j := 9) (q := 0) (by decide) (by show _ < 126; omega) (by omega) dX4_goes_55 ?_
  generalize hs55 : setA s6 9 0 ((s6.2 9 0) - 1) = s55
  exact z_vret E dX4_goes_56 (fun h9 q9 => hP _ h9 (by subst hs55 hs6; unfold M_goes; rfl) q9)
theorem mm_X4_goes {l : Launch} {w : zWd} {m : Nat} {ad : Nat → Nat} {h0 : zH} {σ : mSt} (q : Nat) (hq : q < 12) : ZM l w yX4_goes (ws_ yX4_goes cX4_goes 3 none) 1 21 0 0 [.ref m, .int (nI q)] (mS m ad h0 σ) (zrv (mS m ad h0 (M_goes σ q))) zno :=
  zm_of (by decide) rfl (Nat.le_of_ble_eq_true rfl) (fun X _ E => mb_X4_goes q hq E (fun s h e q => by subst e; exact ⟨rfl, q⟩))
def B_makes (n : Nat) (h a b z : Int32) (i : Nat) (s : mSt) : mSt :=
  let s71 := setA s 9 (30 + 8 * n + i) 0
  s71
set_option maxHeartbeats 4000000 in
theorem ml_makes {X : zX} {w : zWd} {m : Nat} {ad : Nat → Nat} {h0 : zH} {P : Option Value → zH → Prop} {PX : Nat → zH → Prop} (n : Nat) (h a b z : Int32) (hn : n < 12) (s0 : mSt)  (E : zOK X w RX4 cX4_makes 7 2 44 [] (some .int) "makes") (kx : Z X w 7 (zQ X w P PX) (mS m ad h0 ((iterN (B_makes n h a b z) s0 8))) 0 0 [(0, .ref m), (1, .int h), (2, .int a), (3, .int b), (4, .int (nI n)), (5, .int z), (6, .int (nI 8))] 78 []) : ∀ d i, i + d = 8 → Z X w 7 (zQ X w P PX) (mS m ad h0 ((iterN (B_makes n h a b z) s0 i))) 0 0 [(0, .ref m), (1, .int h), (2, .int a), (3, .int b), (4, .int (nI n)), (5, .int z), (6, .int (nI i))] 52 [] := by
  intro d
  induction d with
  | zero =>
    intro i hi
    have hi : i = 8 := by omega
    rw [hi]
    refine z_iload E dX4_makes_52 6 rfl ?_
    refine z_bipush (v := 8) E dX4_makes_54 (by decide) ?_
    refine z_icmp_geN (a := 8) (b := 8) (tgt := 78) E (by omega) (by omega) dX4_makes_56 (by decide) (fun c56 => ?_) (fun c56 => absurd c56 (by omega))
    exact kx
  | succ d ih =>
    intro i hi
    have ih1 := ih (i + 1) (by omega)
    rw [iterN_s] at ih1
    generalize hs : iterN (B_makes n h a b z) s0 i = s at ih1  ⊢
    refine z_iload E dX4_makes_52 6 rfl ?_
    refine z_bipush (v := 8) E dX4_makes_54 (by decide) ?_
    refine z_icmp_geN (a := i) (b := 8) (tgt := 78) E (by omega) (by omega) dX4_makes_56 (by decide) (fun c56 => absurd c56 (by omega)) (fun c56 => ?_)
    refine z_aload_n E dX4_makes_59 rfl 0 rfl ?_
    refine m_get E 9 (by decide) rfl q1679 rfl dX4_makes_60 ?_
    refine z_iload E dX4_makes_63 4 rfl ?_
    refine z_iload E dX4_makes_65 6 rfl ?_
    refine z_callSi E (rest := [.ref (ad 9)]) (k' := 0) (n' := 0) cs_X4_in (mm_X4_in n i) q1790 rfl rfl (Nat.le_of_ble_eq_true rfl) (Nat.le_of_ble_eq_true rfl) (Nat.le_of_ble_eq_true rfl) dX4_makes_67 (Nat.le_refl _) (Nat.le_refl _) ?_
    refine z_iconst (v := 0) E dX4_makes_70 (by decide) ?_
    refine m_ast E (j := 9) (q := 30 + 8 * n + i) (by decide) (by show _ < 126; omega) (by omega) dX4_makes_71 ?_
    generalize hs71 : setA s 9 (30 + 8 * n + i) 0 = s71
    refine z_iinc (v := nI (i + 1)) (lv' := [(6, .int (nI (i + 1))), (0, .ref m), (1, .int h), (2, .int a), (3, .int b), (4, .int (nI n)), (5, .int z)]) E dX4_makes_72 (j := 6) rfl (nI_add _ 1) (by decide) rfl ?_
    refine z_goto (tgt := 52) E dX4_makes_75 (by decide) ?_
    refine z_sub (lv' := [(0, .ref m), (1, .int h), (2, .int a), (3, .int b), (4, .int (nI n)), (5, .int z), (6, .int (nI (i + 1)))]) [1, 2, 3, 4, 5, 6, 0] rfl ?_
    subst hs71
    exact ih1
theorem cv_X4_makes : zCV yX4_makes RX4 cX4_makes 7 (some .int) 3 := ⟨⟨q1784, qs40, q95, q1785⟩, by decide +kernel⟩
def M_makes (σ : mSt) (n : Nat) (h a b : Int32) : Int32 × mSt :=
  if (((M_tray σ n h) + a) + 1) ≤ 60 then
    if n = 12 then
      let s45 := (M_refuses σ 1 12).2
      ((M_refuses σ 1 12).1, s45)
    else
      let s52 := (iterN (B_makes n h a b (((M_tray σ n h) + a) + 1)) σ 8)
      let s89 := setA s52 9 (30 + 8 * n + 0) h
      let s101 := setA s89 9 (30 + 8 * n + 1) a
      let s113 := setA s101 9 (30 + 8 * n + 2) b
      let s123 := setA s113 9 0 ((s113.2 9 0) + 1)
      (nI n, s123)
  else
    let s30 := (M_refuses σ 3 (((M_tray σ n h) + a) + 1)).2
    ((M_refuses σ 3 (((M_tray σ n h) + a) + 1)).1, s30)
set_option maxHeartbeats 4000000 in
theorem mb_X4_makes {X : zX} {w : zWd} {m : Nat} {ad : Nat → Nat} {h0 : zH} {σ : mSt} {P : Option Value → zH → Prop} {PX : Nat → zH → Prop} (n : Nat) (h a b : Int32) (I : MI (σ.2 9) n) (E : zOK X w RX4 cX4_makes 7 2 44 [] (some .int) "makes") (hP : ∀ r9 s9 h9, (r9, s9) = M_makes σ n h a b → mS m ad h0 s9 h9 → P (some (.int r9)) h9) : Z X w 7 (zQ X w P PX) (mS m ad h0 σ) 0 0 [(0, .ref m), (1, .int h), (2, .int a), (3, .int b)] 0 [] := by
  have hn12 := I.2.1
  refine z_aload_n E dX4_makes_0 rfl 0 rfl ?_
  refine m_get E 9 (by decide) rfl q1679 rfl dX4_makes_1 ?_
  refine z_iconst (v := 0) E dX4_makes_4 (by decide) ?_
  refine m_ald E (j := 9) (q := 0) (by decide) (by show _ < 126; omega) (by omega) dX4_makes_5 ?_
  refine z_top (I.1) ?_
  refine z_istore (lv' := [(4, .int (nI n)), (0, .ref m), (1, .int h), (2, .int a), (3, .int b)]) E dX4_makes_6 (by decide) rfl ?_
  refine z_aload_n E dX4_makes_8 rfl 1 rfl ?_
  refine z_iload_n E dX4_makes_9 rfl 2 rfl ?_
  refine z_callVi E (rest := []) (k' := 0) (n' := 0) cv_X4_tray (mm_X4_tray (σ := σ) n h (I)) q1786 rfl mS_o rfl rfl (Nat.le_of_ble_eq_true rfl) (Nat.le_of_ble_eq_true rfl) (Nat.le_of_ble_eq_true rfl) dX4_makes_10 (Nat.le_refl _) (Nat.le_refl _) ?_
  refine z_iload_n E dX4_makes_13 rfl 3 rfl ?_
  refine z_iadd E dX4_makes_14 ?_
  refine z_iconst (v := 1) E dX4_makes_15 (by decide) ?_
  refine z_iadd E dX4_makes_16 ?_
  refine z_istore (lv' := [(5, .int (((M_tray σ n h) + a) + 1)), (4, .int (nI n)), (0, .ref m), (1, .int h), (2, .int a), (3, .int b)]) E dX4_makes_17 (by decide) rfl ?_
  refine z_iload E dX4_makes_19 0 rfl ?_
  refine z_bipush (v := 60) E dX4_makes_21 (by decide) ?_
  refine z_icmp_le (tgt := 34) E dX4_makes_23 (by decide) (fun c23 => ?_) (fun c23 => ?_)
  · refine z_iload E dX4_makes_34 1 rfl ?_
    refine z_bipush (v := 12) E dX4_makes_36 (by decide) ?_
    refine z_icmp_neN (a := n) (b := 12) (tgt := 49) E (by omega) (by omega) dX4_makes_38 (by decide) (fun c38 => ?_) (fun c38 => ?_)
    · refine z_iconst (v := 0) E dX4_makes_49 (by decide) ?_
      refine z_istore (lv' := [(6, .int 0), (5, .int (((M_tray σ n h) + a) + 1)), (4, .int (nI n)), (0, .ref m), (1, .int h), (2, .int a), (3, .int b)]) E dX4_makes_50 (by decide) rfl ?_
      refine z_sub (lv' := [(0, .ref m), (1, .int h), (2, .int a), (3, .int b), (4, .int (nI n)), (5, .int (((M_tray σ n h) + a) + 1)), (6, .int 0)]) [3, 4, 5, 6, 2, 1, 0] rfl ?_
      refine ml_makes n h a b (((M_tray σ n h) + a) + 1) (by omega) σ  E ?_ 8 0 (by omega)
      generalize hs52 : (iterN (B_makes n h a b (((M_tray σ n h) + a) + 1)) σ 8) = s52
      refine z_aload_n E dX4_makes_78 rfl 0 rfl ?_
      refine m_get E 9 (by decide) rfl q1679 rfl dX4_makes_79 ?_
      refine z_iload E dX4_makes_82 4 rfl ?_
      refine z_iconst (v := 0) E dX4_makes_84 (by decide) ?_
      refine z_callSi E (rest := [.ref (ad 9)]) (k' := 0) (n' := 0) cs_X4_in (mm_X4_in n 0) q1790 rfl rfl (Nat.le_of_ble_eq_true rfl) (Nat.le_of_ble_eq_true rfl) (Nat.le_of_ble_eq_true rfl) dX4_makes_85 (Nat.le_refl _) (Nat.le_refl _) ?_
      refine z_iload_n E dX4_makes_88 rfl 1 rfl ?_
      refine m_ast E (j := 9) (q := 30 + 8 * n + 0) (by decide) (by show _ < 126; omega) (by omega) dX4_makes_89 ?_
      generalize hs89 : setA s52 9 (30 + 8 * n + 0) h = s89
      refine z_aload_n E dX4_makes_90 rfl 0 rfl ?_
      refine m_get E 9 (by decide) rfl q1679 rfl dX4_makes_91 ?_
      refine z_iload E dX4_makes_94 4 rfl ?_
      refine z_iconst (v := 1) E dX4_makes_96 (by decide) ?_
      refine z_callSi E (rest := [.ref (ad 9)]) (k' := 0) (n' := 0) cs_X4_in (mm_X4_in n 1) q1790 rfl rfl (Nat.le_of_ble_eq_true rfl) (Nat.le_of_ble_eq_true rfl) (Nat.le_of_ble_eq_true rfl) dX4_makes_97 (Nat.le_refl _) (Nat.le_refl _) ?_
      refine z_iload_n E dX4_makes_100 rfl 2 rfl ?_
      refine m_ast E (j := 9) (q := 30 + 8 * n + 1) (by decide) (by show _ < 126; omega) (by omega) dX4_makes_101 ?_
      generalize hs101 : setA s89 9 (30 + 8 * n + 1) a = s101
      refine z_aload_n E dX4_makes_102 rfl 0 rfl ?_
      refine m_get E 9 (by decide) rfl q1679 rfl dX4_makes_103 ?_
      refine z_iload E dX4_makes_106 4 rfl ?_
      refine z_iconst (v := 2) E dX4_makes_108 (by decide) ?_
      refine z_callSi E (rest := [.ref (ad 9)]) (k' := 0) (n' := 0) cs_X4_in (mm_X4_in n 2) q1790 rfl rfl (Nat.le_of_ble_eq_true rfl) (Nat.le_of_ble_eq_true rfl) (Nat.le_of_ble_eq_true rfl) dX4_makes_109 (Nat.le_refl _) (Nat.le_refl _) ?_
      refine z_iload_n E dX4_makes_112 rfl 3 rfl ?_
      refine m_ast E (j := 9) (q := 30 + 8 * n + 2) (by decide) (by show _ < 126; omega) (by omega) dX4_makes_113 ?_
      generalize hs113 : setA s101 9 (30 + 8 * n + 2) b = s113
      refine z_aload_n E dX4_makes_114 rfl 0 rfl ?_
      refine m_get E 9 (by decide) rfl q1679 rfl dX4_makes_115 ?_
      refine z_iconst (v := 0) E dX4_makes_118 (by decide) ?_
      refine z_dup2_11 E dX4_makes_119 rfl rfl ?_
      refine m_ald E (j := 9) (q := 0) (by decide) (by show _ < 126; omega) (by omega) dX4_makes_120 ?_
      refine z_iconst (v := 1) E dX4_makes_121 (by decide) ?_
      refine z_iadd E dX4_makes_122 ?_
      refine m_ast E (j := 9) (q := 0) (by decide) (by show _ < 126; omega) (by omega) dX4_makes_123 ?_
      generalize hs123 : setA s113 9 0 ((s113.2 9 0) + 1) = s123
      refine z_iload E dX4_makes_124 4 rfl ?_
      exact z_iret E dX4_makes_126 (fun h9 q9 => hP _ _ h9 (by subst hs123 hs113 hs101 hs89 hs52; unfold M_makes; dsimp only; rw [if_pos c23, if_neg c38]) q9)
    · refine z_aload_n E dX4_makes_41 rfl 2 rfl ?_
      refine z_iconst (v := 1) E dX4_makes_42 (by decide) ?_
      refine z_bipush (v := 12) E dX4_makes_43 (by decide) ?_
      refine z_callVi E (rest := []) (k' := 0) (n' := 0) cv_X4_refuses (mm_X4_refuses (σ := σ) 1 12) q1778 rfl mS_o rfl rfl (Nat.le_of_ble_eq_true rfl) (Nat.le_of_ble_eq_true rfl) (Nat.le_of_ble_eq_true rfl) dX4_makes_45 (Nat.le_refl _) (Nat.le_refl _) ?_
      generalize hs45 : (M_refuses σ 1 12).2 = s45
      exact z_iret E dX4_makes_48 (fun h9 q9 => hP _ _ h9 (by subst hs45; unfold M_makes; dsimp only; rw [if_pos c23, if_pos c38]) q9)
  · refine z_aload_n E dX4_makes_26 rfl 2 rfl ?_
    refine z_iconst (v := 3) E dX4_makes_27 (by decide) ?_
    refine z_iload E dX4_makes_28 0 rfl ?_
    refine z_callVi E (rest := []) (k' := 0) (n' := 0) cv_X4_refuses (mm_X4_refuses (σ := σ) 3 (((M_tray σ n h) + a) + 1)) q1778 rfl mS_o rfl rfl (Nat.le_of_ble_eq_true rfl) (Nat.le_of_ble_eq_true rfl) (Nat.le_of_ble_eq_true rfl) dX4_makes_30 (Nat.le_refl _) (Nat.le_refl _) ?_
    generalize hs30 : (M_refuses σ 3 (((M_tray σ n h) + a) + 1)).2 = s30
    exact z_iret E dX4_makes_33 (fun h9 q9 => hP _ _ h9 (by subst hs30; unfold M_makes; dsimp only; rw [if_neg c23]) q9)
theorem mm_X4_makes {l : Launch} {w : zWd} {m : Nat} {ad : Nat → Nat} {h0 : zH} {σ : mSt} (n : Nat) (h a b : Int32) (I : MI (σ.2 9) n) : ZM l w yX4_makes (ws_ yX4_makes cX4_makes 7 (some .int)) 2 44 0 0 [.ref m, .int h, .int a, .int b] (mS m ad h0 σ) (zri (M_makes σ n h a b).1 (mS m ad h0 (M_makes σ n h a b).2)) zno :=
  zm_of (by decide) rfl (Nat.le_of_ble_eq_true rfl) (fun X _ E => mb_X4_makes n h a b I E (fun r s h e q => by rw [← e]; exact ⟨rfl, q⟩))
theorem cv_X4_comes : zCV yX4_comes RX4 cX4_comes 4 (some .int) 3 := ⟨⟨q1759, qs36, q95, q1760⟩, by decide +kernel⟩
def M_comes (σ : mSt) (n : Nat) (h a b : Int32) : Int32 × mSt :=
  if (M_isHouse h) = 0 then
    let s11 := (M_fail σ (-1011)).2
    ((M_fail σ (-1011)).1, s11)
  else
    if (M_isMade a b) = 0 then
      let s27 := (M_fail σ (-1012)).2
      ((M_fail σ (-1012)).1, s27)
    else
      let k1 := h.toNatClampNeg
      if (M_isOpen σ k1) = 0 then
        let s42 := (M_refuses σ 2 (nI k1)).2
        ((M_refuses σ 2 (nI k1)).1, s42)
      else
        let s55 := setA σ 9 1 ((σ.2 9 1) + a)
        let s60 := (M_makes s55 n (nI k1) a b).2
        ((M_makes s55 n (nI k1) a b).1, s60)
set_option maxHeartbeats 4000000 in
theorem mb_X4_comes {X : zX} {w : zWd} {m : Nat} {ad : Nat → Nat} {h0 : zH} {σ : mSt} {P : Option Value → zH → Prop} {PX : Nat → zH → Prop} (n : Nat) (h a b : Int32) (I : MI (σ.2 9) n) (E : zOK X w RX4 cX4_comes 4 3 70 [] (some .int) "comes") (hP : ∀ r9 s9 h9, (r9, s9) = M_comes σ n h a b → mS m ad h0 s9 h9 → P (some (.int r9)) h9) : Z X w 4 (zQ X w P PX) (mS m ad h0 σ) 0 0 [(0, .ref m), (1, .int h), (2, .int a), (3, .int b)] 0 [] := by
  have hn12 := I.2.1
  refine z_iload_n E dX4_comes_0 rfl 1 rfl ?_
  refine z_callSi E (rest := []) (k' := 0) (n' := 0) cs_X4_isHouse (mm_X4_isHouse h) q1761 rfl rfl (Nat.le_of_ble_eq_true rfl) (Nat.le_of_ble_eq_true rfl) (Nat.le_of_ble_eq_true rfl) dX4_comes_1 (Nat.le_refl _) (Nat.le_refl _) ?_
  refine z_if_ne (tgt := 15) E dX4_comes_4 (by decide) (fun c4 => ?_) (fun c4 => ?_)
  · refine z_iload_n E dX4_comes_15 rfl 2 rfl ?_
    refine z_iload_n E dX4_comes_16 rfl 3 rfl ?_
    refine z_callSi E (rest := []) (k' := 0) (n' := 0) cs_X4_isMade (mm_X4_isMade a b) q1771 rfl rfl (Nat.le_of_ble_eq_true rfl) (Nat.le_of_ble_eq_true rfl) (Nat.le_of_ble_eq_true rfl) dX4_comes_17 (Nat.le_refl _) (Nat.le_refl _) ?_
    refine z_if_ne (tgt := 31) E dX4_comes_20 (by decide) (fun c20 => ?_) (fun c20 => ?_)
    · have hk1p := zHouse_e c4
      generalize hk1 : h.toNatClampNeg = k1 at hk1p ⊢
      have hk1l := hk1p.2
      rw [hk1p.1]
      refine z_aload_n E dX4_comes_31 rfl 0 rfl ?_
      refine z_iload_n E dX4_comes_32 rfl 1 rfl ?_
      refine z_callVi E (rest := []) (k' := 0) (n' := 0) cv_X4_isOpen (mm_X4_isOpen (σ := σ) k1 (by omega)) q1774 rfl mS_o rfl rfl (Nat.le_of_ble_eq_true rfl) (Nat.le_of_ble_eq_true rfl) (Nat.le_of_ble_eq_true rfl) dX4_comes_33 (Nat.le_refl _) (Nat.le_refl _) ?_
      refine z_if_ne (tgt := 46) E dX4_comes_36 (by decide) (fun c36 => ?_) (fun c36 => ?_)
      · refine z_aload_n E dX4_comes_46 rfl 0 rfl ?_
        refine m_get E 9 (by decide) rfl q1679 rfl dX4_comes_47 ?_
        refine z_iconst (v := 1) E dX4_comes_50 (by decide) ?_
        refine z_dup2_11 E dX4_comes_51 rfl rfl ?_
        refine m_ald E (j := 9) (q := 1) (by decide) (by show _ < 126; omega) (by omega) dX4_comes_52 ?_
        refine z_iload_n E dX4_comes_53 rfl 2 rfl ?_
        refine z_iadd E dX4_comes_54 ?_
        refine m_ast E (j := 9) (q := 1) (by decide) (by show _ < 126; omega) (by omega) dX4_comes_55 ?_
        generalize hs55 : setA σ 9 1 ((σ.2 9 1) + a) = s55
        refine z_aload_n E dX4_comes_56 rfl 0 rfl ?_
        refine z_iload_n E dX4_comes_57 rfl 1 rfl ?_
        refine z_iload_n E dX4_comes_58 rfl 2 rfl ?_
        refine z_iload_n E dX4_comes_59 rfl 3 rfl ?_
        refine z_callVi E (rest := []) (k' := 0) (n' := 0) cv_X4_makes (mm_X4_makes (σ := s55) n (nI k1) a b ((by rw [← hs55]; exact (MI_k I (by omega) (fun _ _ => by omega) (fun _ _ => by omega) (fun _ _ => by omega))))) q1782 rfl mS_o rfl rfl (Nat.le_of_ble_eq_true rfl) (Nat.le_of_ble_eq_true rfl) (Nat.le_of_ble_eq_true rfl) dX4_comes_60 (Nat.le_refl _) (Nat.le_refl _) ?_
        generalize hs60 : (M_makes s55 n (nI k1) a b).2 = s60
        exact z_iret E dX4_comes_63 (fun h9 q9 => hP _ _ h9 (by subst hs60 hs55 hk1; unfold M_comes; dsimp only; rw [if_neg c4, if_neg c20, if_neg c36]) q9)
      · refine z_aload_n E dX4_comes_39 rfl 0 rfl ?_
        refine z_iconst (v := 2) E dX4_comes_40 (by decide) ?_
        refine z_iload_n E dX4_comes_41 rfl 1 rfl ?_
        refine z_callVi E (rest := []) (k' := 0) (n' := 0) cv_X4_refuses (mm_X4_refuses (σ := σ) 2 (nI k1)) q1778 rfl mS_o rfl rfl (Nat.le_of_ble_eq_true rfl) (Nat.le_of_ble_eq_true rfl) (Nat.le_of_ble_eq_true rfl) dX4_comes_42 (Nat.le_refl _) (Nat.le_refl _) ?_
        generalize hs42 : (M_refuses σ 2 (nI k1)).2 = s42
        exact z_iret E dX4_comes_45 (fun h9 q9 => hP _ _ h9 (by subst hs42 hk1; unfold M_comes; dsimp only; rw [if_neg c4, if_neg c20, if_pos c36]) q9)
    · refine z_aload_n E dX4_comes_23 rfl 0 rfl ?_
      refine z_sipush (v := -1012) E dX4_comes_24 (by decide) ?_
      refine z_callVi E (rest := []) (k' := 0) (n' := 0) cv_X4_fail (mm_X4_fail (σ := σ) (-1012)) q1767 rfl mS_o rfl rfl (Nat.le_of_ble_eq_true rfl) (Nat.le_of_ble_eq_true rfl) (Nat.le_of_ble_eq_true rfl) dX4_comes_27 (Nat.le_refl _) (Nat.le_refl _) ?_
      generalize hs27 : (M_fail σ (-1012)).2 = s27
      exact z_iret E dX4_comes_30 (fun h9 q9 => hP _ _ h9 (by subst hs27; unfold M_comes; dsimp only; rw [if_neg c4, if_pos c20]) q9)
  · refine z_aload_n E dX4_comes_7 rfl 0 rfl ?_
    refine z_sipush (v := -1011) E dX4_comes_8 (by decide) ?_
    refine z_callVi E (rest := []) (k' := 0) (n' := 0) cv_X4_fail (mm_X4_fail (σ := σ) (-1011)) q1767 rfl mS_o rfl rfl (Nat.le_of_ble_eq_true rfl) (Nat.le_of_ble_eq_true rfl) (Nat.le_of_ble_eq_true rfl) dX4_comes_11 (Nat.le_refl _) (Nat.le_refl _) ?_
    generalize hs11 : (M_fail σ (-1011)).2 = s11
    exact z_iret E dX4_comes_14 (fun h9 q9 => hP _ _ h9 (by subst hs11; unfold M_comes; dsimp only; rw [if_pos c4]) q9)
theorem mm_X4_comes {l : Launch} {w : zWd} {m : Nat} {ad : Nat → Nat} {h0 : zH} {σ : mSt} (n : Nat) (h a b : Int32) (I : MI (σ.2 9) n) : ZM l w yX4_comes (ws_ yX4_comes cX4_comes 4 (some .int)) 3 70 0 0 [.ref m, .int h, .int a, .int b] (mS m ad h0 σ) (zri (M_comes σ n h a b).1 (mS m ad h0 (M_comes σ n h a b).2)) zno :=
  zm_of (by decide) rfl (Nat.le_of_ble_eq_true rfl) (fun X _ E => mb_X4_comes n h a b I E (fun r s h e q => by rw [← e]; exact ⟨rfl, q⟩))
theorem cv_X4_burns : zCV yX4_burns RX4 cX4_burns 5 (some .int) 2 := ⟨⟨q1803, qs43, q95, q1804⟩, by decide +kernel⟩
def M_burns (σ : mSt) (n : Nat) (s a : Int32) : Int32 × mSt :=
  if (M_isStub σ s) = 0 then
    let s12 := (M_fail σ (-1011)).2
    ((M_fail σ (-1011)).1, s12)
  else
    let k1 := s.toNatClampNeg
    if (M_isIn a 1 30) = 0 then
      let s30 := (M_fail σ (-1012)).2
      ((M_fail σ (-1012)).1, s30)
    else
      if (σ.2 9 (30 + 8 * k1 + 6)) ≤ 0 then
        if a ≤ (σ.2 9 (30 + 8 * k1 + 1)) then
          let s153 := setA σ 9 (30 + 8 * k1 + 1) ((σ.2 9 (30 + 8 * k1 + 1)) - a)
          let s163 := setA s153 9 2 ((s153.2 9 2) + a)
          let s173 := setA s163 9 3 ((s163.2 9 3) + (a * (σ.2 9 (30 + 8 * k1 + 2))))
          let s188 := setA s173 9 (30 + 8 * k1 + 7) ((s173.2 9 (30 + 8 * k1 + 7)) + (a * (σ.2 9 (30 + 8 * k1 + 2))))
          let s203 := setA s188 9 (30 + 8 * k1 + 4) ((s188.2 9 (30 + 8 * k1 + 4)) - (if (a * (σ.2 9 (30 + 8 * k1 + 2))) ≤ (σ.2 9 (30 + 8 * k1 + 4)) then (a * (σ.2 9 (30 + 8 * k1 + 2))) else (σ.2 9 (30 + 8 * k1 + 4))))
          let s214 := setA s203 9 4 ((s203.2 9 4) + (if (a * (σ.2 9 (30 + 8 * k1 + 2))) ≤ (σ.2 9 (30 + 8 * k1 + 4)) then (a * (σ.2 9 (30 + 8 * k1 + 2))) else (σ.2 9 (30 + 8 * k1 + 4))))
          let s239 := if (s214.2 9 (30 + 8 * k1 + 4)) = 0 then (setA s214 9 (30 + 8 * k1 + 3) 0) else s214
          let s257 := if (s239.2 9 (30 + 8 * k1 + 1)) = 0 then (M_goes s239 k1) else s239
          (if (a * (σ.2 9 (30 + 8 * k1 + 2))) ≤ (σ.2 9 (30 + 8 * k1 + 4)) then (a * (σ.2 9 (30 + 8 * k1 + 2))) else (σ.2 9 (30 + 8 * k1 + 4)), s257)
        else
          let s93 := (M_refusesBurning σ (nI k1) 6 (σ.2 9 (30 + 8 * k1 + 1))).2
          ((M_refusesBurning σ (nI k1) 6 (σ.2 9 (30 + 8 * k1 + 1))).1, s93)
      else
        let s61 := (M_refusesBurning σ (nI k1) 5 (σ.2 9 (30 + 8 * k1 + 5))).2
        ((M_refusesBurning σ (nI k1) 5 (σ.2 9 (30 + 8 * k1 + 5))).1, s61)
set_option maxHeartbeats 4000000 in
theorem mb_X4_burns {X : zX} {w : zWd} {m : Nat} {ad : Nat → Nat} {h0 : zH} {σ : mSt} {P : Option Value → zH → Prop} {PX : Nat → zH → Prop} (n : Nat) (s a : Int32) (I : MI (σ.2 9) n) (E : zOK X w RX4 cX4_burns 5 3 67 [] (some .int) "burns") (hP : ∀ r9 s9 h9, (r9, s9) = M_burns σ n s a → mS m ad h0 s9 h9 → P (some (.int r9)) h9) : Z X w 5 (zQ X w P PX) (mS m ad h0 σ) 0 0 [(0, .ref m), (1, .int s), (2, .int a)] 0 [] := by
  have hn12 := I.2.1
  refine z_aload_n E dX4_burns_0 rfl 0 rfl ?_
  refine z_iload_n E dX4_burns_1 rfl 1 rfl ?_
  refine z_callVi E (rest := []) (k' := 0) (n' := 0) cv_X4_isStub (mm_X4_isStub (σ := σ) s) q1805 rfl mS_o rfl rfl (Nat.le_of_ble_eq_true rfl) (Nat.le_of_ble_eq_true rfl) (Nat.le_of_ble_eq_true rfl) dX4_burns_2 (Nat.le_refl _) (Nat.le_refl _) ?_
  refine z_if_ne (tgt := 16) E dX4_burns_5 (by decide) (fun c5 => ?_) (fun c5 => ?_)
  · have hk1p := zStub_e I c5
    generalize hk1 : s.toNatClampNeg = k1 at hk1p ⊢
    have hk1l := hk1p.2
    rw [hk1p.1]
    refine z_iload_n E dX4_burns_16 rfl 2 rfl ?_
    refine z_iconst (v := 1) E dX4_burns_17 (by decide) ?_
    refine z_bipush (v := 30) E dX4_burns_18 (by decide) ?_
    refine z_callSi E (rest := []) (k' := 0) (n' := 0) cs_X4_isIn (mm_X4_isIn a 1 30) q1764 rfl rfl (Nat.le_of_ble_eq_true rfl) (Nat.le_of_ble_eq_true rfl) (Nat.le_of_ble_eq_true rfl) dX4_burns_20 (Nat.le_refl _) (Nat.le_refl _) ?_
    refine z_if_ne (tgt := 34) E dX4_burns_23 (by decide) (fun c23 => ?_) (fun c23 => ?_)
    · refine z_aload_n E dX4_burns_34 rfl 0 rfl ?_
      refine m_get E 9 (by decide) rfl q1679 rfl dX4_burns_35 ?_
      refine z_iload_n E dX4_burns_38 rfl 1 rfl ?_
      refine z_bipush (v := 6) E dX4_burns_39 (by decide) ?_
      refine z_callSi E (rest := [.ref (ad 9)]) (k' := 0) (n' := 0) cs_X4_in (mm_X4_in k1 6) q1790 rfl rfl (Nat.le_of_ble_eq_true rfl) (Nat.le_of_ble_eq_true rfl) (Nat.le_of_ble_eq_true rfl) dX4_burns_41 (Nat.le_refl _) (Nat.le_refl _) ?_
      refine m_ald E (j := 9) (q := 30 + 8 * k1 + 6) (by decide) (by show _ < 126; omega) (by omega) dX4_burns_44 ?_
      refine z_if_le (tgt := 65) E dX4_burns_45 (by decide) (fun c45 => ?_) (fun c45 => ?_)
      · refine z_aload_n E dX4_burns_65 rfl 0 rfl ?_
        refine m_get E 9 (by decide) rfl q1679 rfl dX4_burns_66 ?_
        refine z_iload_n E dX4_burns_69 rfl 1 rfl ?_
        refine z_iconst (v := 1) E dX4_burns_70 (by decide) ?_
        refine z_callSi E (rest := [.ref (ad 9)]) (k' := 0) (n' := 0) cs_X4_in (mm_X4_in k1 1) q1790 rfl rfl (Nat.le_of_ble_eq_true rfl) (Nat.le_of_ble_eq_true rfl) (Nat.le_of_ble_eq_true rfl) dX4_burns_71 (Nat.le_refl _) (Nat.le_refl _) ?_
        refine m_ald E (j := 9) (q := 30 + 8 * k1 + 1) (by decide) (by show _ < 126; omega) (by omega) dX4_burns_74 ?_
        refine z_iload_n E dX4_burns_75 rfl 2 rfl ?_
        refine z_icmp_ge (tgt := 97) E dX4_burns_76 (by decide) (fun c76 => ?_) (fun c76 => ?_)
        · refine z_iload_n E dX4_burns_97 rfl 2 rfl ?_
          refine z_aload_n E dX4_burns_98 rfl 0 rfl ?_
          refine m_get E 9 (by decide) rfl q1679 rfl dX4_burns_99 ?_
          refine z_iload_n E dX4_burns_102 rfl 1 rfl ?_
          refine z_iconst (v := 2) E dX4_burns_103 (by decide) ?_
          refine z_callSi E (rest := [.ref (ad 9), .int a]) (k' := 0) (n' := 0) cs_X4_in (mm_X4_in k1 2) q1790 rfl rfl (Nat.le_of_ble_eq_true rfl) (Nat.le_of_ble_eq_true rfl) (Nat.le_of_ble_eq_true rfl) dX4_burns_104 (Nat.le_refl _) (Nat.le_refl _) ?_
          refine m_ald E (j := 9) (q := 30 + 8 * k1 + 2) (by decide) (by show _ < 126; omega) (by omega) dX4_burns_107 ?_
          refine z_imul E dX4_burns_108 ?_
          refine z_istore_n (lv' := [(3, .int (a * (σ.2 9 (30 + 8 * k1 + 2)))), (0, .ref m), (1, .int (nI k1)), (2, .int a)]) E dX4_burns_109 rfl (by decide) rfl ?_
          refine z_aload_n E dX4_burns_110 rfl 1 rfl ?_
          refine m_get E 9 (by decide) rfl q1679 rfl dX4_burns_111 ?_
          refine z_iload_n E dX4_burns_114 rfl 2 rfl ?_
          refine z_iconst (v := 4) E dX4_burns_115 (by decide) ?_
          refine z_callSi E (rest := [.ref (ad 9)]) (k' := 0) (n' := 0) cs_X4_in (mm_X4_in k1 4) q1790 rfl rfl (Nat.le_of_ble_eq_true rfl) (Nat.le_of_ble_eq_true rfl) (Nat.le_of_ble_eq_true rfl) dX4_burns_116 (Nat.le_refl _) (Nat.le_refl _) ?_
          refine m_ald E (j := 9) (q := 30 + 8 * k1 + 4) (by decide) (by show _ < 126; omega) (by omega) dX4_burns_119 ?_
          refine z_iload_n E dX4_burns_120 rfl 0 rfl ?_
          have J121 : ∀ (j121_0 : Int32), j121_0 = (if (a * (σ.2 9 (30 + 8 * k1 + 2))) ≤ (σ.2 9 (30 + 8 * k1 + 4)) then (a * (σ.2 9 (30 + 8 * k1 + 2))) else (σ.2 9 (30 + 8 * k1 + 4))) → Z X w 5 (zQ X w P PX) (mS m ad h0 σ) 0 0 [(0, .ref m), (1, .int (nI k1)), (2, .int a), (3, .int (a * (σ.2 9 (30 + 8 * k1 + 2))))] 138 [.int j121_0] := by
            intro j121_0 ej121_0
            subst ej121_0
            refine z_istore (lv' := [(4, .int (if (a * (σ.2 9 (30 + 8 * k1 + 2))) ≤ (σ.2 9 (30 + 8 * k1 + 4)) then (a * (σ.2 9 (30 + 8 * k1 + 2))) else (σ.2 9 (30 + 8 * k1 + 4)))), (0, .ref m), (1, .int (nI k1)), (2, .int a), (3, .int (a * (σ.2 9 (30 + 8 * k1 + 2))))]) E dX4_burns_138 (by decide) rfl ?_
            refine z_aload_n E dX4_burns_140 rfl 1 rfl ?_
            refine m_get E 9 (by decide) rfl q1679 rfl dX4_burns_141 ?_
            refine z_iload_n E dX4_burns_144 rfl 2 rfl ?_
            refine z_iconst (v := 1) E dX4_burns_145 (by decide) ?_
            refine z_callSi E (rest := [.ref (ad 9)]) (k' := 0) (n' := 0) cs_X4_in (mm_X4_in k1 1) q1790 rfl rfl (Nat.le_of_ble_eq_true rfl) (Nat.le_of_ble_eq_true rfl) (Nat.le_of_ble_eq_true rfl) dX4_burns_146 (Nat.le_refl _) (Nat.le_refl _) ?_
            refine z_dup2_11 E dX4_burns_149 rfl rfl ?_
            refine m_ald E (j := 9) (q := 30 + 8 * k1 + 1) (by decide) (by show _ < 126; omega) (by omega) dX4_burns_150 ?_
            refine z_iload_n E dX4_burns_151 rfl 3 rfl ?_
            refine z_isub E dX4_burns_152 ?_
            refine m_ast E (j := 9) (q := 30 + 8 * k1 + 1) (by decide) (by show _ < 126; omega) (by omega) dX4_burns_153 ?_
            generalize hs153 : setA σ 9 (30 + 8 * k1 + 1) ((σ.2 9 (30 + 8 * k1 + 1)) - a) = s153
            refine z_aload_n E dX4_burns_154 rfl 1 rfl ?_
            refine m_get E 9 (by decide) rfl q1679 rfl dX4_burns_155 ?_
            refine z_iconst (v := 2) E dX4_burns_158 (by decide) ?_
            refine z_dup2_11 E dX4_burns_159 rfl rfl ?_
            refine m_ald E (j := 9) (q := 2) (by decide) (by show _ < 126; omega) (by omega) dX4_burns_160 ?_
            refine z_iload_n E dX4_burns_161 rfl 3 rfl ?_
            refine z_iadd E dX4_burns_162 ?_
            refine m_ast E (j := 9) (q := 2) (by decide) (by show _ < 126; omega) (by omega) dX4_burns_163 ?_
            generalize hs163 : setA s153 9 2 ((s153.2 9 2) + a) = s163
            refine z_aload_n E dX4_burns_164 rfl 1 rfl ?_
            refine m_get E 9 (by decide) rfl q1679 rfl dX4_burns_165 ?_
            refine z_iconst (v := 3) E dX4_burns_168 (by decide) ?_
            refine z_dup2_11 E dX4_burns_169 rfl rfl ?_
            refine m_ald E (j := 9) (q := 3) (by decide) (by show _ < 126; omega) (by omega) dX4_burns_170 ?_
            refine z_iload_n E dX4_burns_171 rfl 4 rfl ?_
            refine z_iadd E dX4_burns_172 ?_
            refine m_ast E (j := 9) (q := 3) (by decide) (by show _ < 126; omega) (by omega) dX4_burns_173 ?_
            generalize hs173 : setA s163 9 3 ((s163.2 9 3) + (a * (σ.2 9 (30 + 8 * k1 + 2)))) = s173
            refine z_aload_n E dX4_burns_174 rfl 1 rfl ?_
            refine m_get E 9 (by decide) rfl q1679 rfl dX4_burns_175 ?_
            refine z_iload_n E dX4_burns_178 rfl 2 rfl ?_
            refine z_bipush (v := 7) E dX4_burns_179 (by decide) ?_
            refine z_callSi E (rest := [.ref (ad 9)]) (k' := 0) (n' := 0) cs_X4_in (mm_X4_in k1 7) q1790 rfl rfl (Nat.le_of_ble_eq_true rfl) (Nat.le_of_ble_eq_true rfl) (Nat.le_of_ble_eq_true rfl) dX4_burns_181 (Nat.le_refl _) (Nat.le_refl _) ?_
            refine z_dup2_11 E dX4_burns_184 rfl rfl ?_
            refine m_ald E (j := 9) (q := 30 + 8 * k1 + 7) (by decide) (by show _ < 126; omega) (by omega) dX4_burns_185 ?_
            refine z_iload_n E dX4_burns_186 rfl 4 rfl ?_
            refine z_iadd E dX4_burns_187 ?_
            refine m_ast E (j := 9) (q := 30 + 8 * k1 + 7) (by decide) (by show _ < 126; omega) (by omega) dX4_burns_188 ?_
            generalize hs188 : setA s173 9 (30 + 8 * k1 + 7) ((s173.2 9 (30 + 8 * k1 + 7)) + (a * (σ.2 9 (30 + 8 * k1 + 2)))) = s188
            refine z_aload_n E dX4_burns_189 rfl 1 rfl ?_
            refine m_get E 9 (by decide) rfl q1679 rfl dX4_burns_190 ?_
            refine z_iload_n E dX4_burns_193 rfl 2 rfl ?_
            refine z_iconst (v := 4) E dX4_burns_194 (by decide) ?_
            refine z_callSi E (rest := [.ref (ad 9)]) (k' := 0) (n' := 0) cs_X4_in (mm_X4_in k1 4) q1790 rfl rfl (Nat.le_of_ble_eq_true rfl) (Nat.le_of_ble_eq_true rfl) (Nat.le_of_ble_eq_true rfl) dX4_burns_195 (Nat.le_refl _) (Nat.le_refl _) ?_
            refine z_dup2_11 E dX4_burns_198 rfl rfl ?_
            refine m_ald E (j := 9) (q := 30 + 8 * k1 + 4) (by decide) (by show _ < 126; omega) (by omega) dX4_burns_199 ?_
            refine z_iload E dX4_burns_200 0 rfl ?_
            refine z_isub E dX4_burns_202 ?_
            refine m_ast E (j := 9) (q := 30 + 8 * k1 + 4) (by decide) (by show _ < 126; omega) (by omega) dX4_burns_203 ?_
            generalize hs203 : setA s188 9 (30 + 8 * k1 + 4) ((s188.2 9 (30 + 8 * k1 + 4)) - (if (a * (σ.2 9 (30 + 8 * k1 + 2))) ≤ (σ.2 9 (30 + 8 * k1 + 4)) then (a * (σ.2 9 (30 + 8 * k1 + 2))) else (σ.2 9 (30 + 8 * k1 + 4)))) = s203
            refine z_aload_n E dX4_burns_204 rfl 1 rfl ?_
            refine m_get E 9 (by decide) rfl q1679 rfl dX4_burns_205 ?_
            refine z_iconst (v := 4) E dX4_burns_208 (by decide) ?_
            refine z_dup2_11 E dX4_burns_209 rfl rfl ?_
            refine m_ald E (j := 9) (q := 4) (by decide) (by show _ < 126; omega) (by omega) dX4_burns_210 ?_
            refine z_iload E dX4_burns_211 0 rfl ?_
            refine z_iadd E dX4_burns_213 ?_
            refine m_ast E (j := 9) (q := 4) (by decide) (by show _ < 126; omega) (by omega) dX4_burns_214 ?_
            generalize hs214 : setA s203 9 4 ((s203.2 9 4) + (if (a * (σ.2 9 (30 + 8 * k1 + 2))) ≤ (σ.2 9 (30 + 8 * k1 + 4)) then (a * (σ.2 9 (30 + 8 * k1 + 2))) else (σ.2 9 (30 + 8 * k1 + 4)))) = s214
            refine z_aload_n E dX4_burns_215 rfl 1 rfl ?_
            refine m_get E 9 (by decide) rfl q1679 rfl dX4_burns_216 ?_
            refine z_iload_n E dX4_burns_219 rfl 2 rfl ?_
            refine z_iconst (v := 4) E dX4_burns_220 (by decide) ?_
            refine z_callSi E (rest := [.ref (ad 9)]) (k' := 0) (n' := 0) cs_X4_in (mm_X4_in k1 4) q1790 rfl rfl (Nat.le_of_ble_eq_true rfl) (Nat.le_of_ble_eq_true rfl) (Nat.le_of_ble_eq_true rfl) dX4_burns_221 (Nat.le_refl _) (Nat.le_refl _) ?_
            refine m_ald E (j := 9) (q := 30 + 8 * k1 + 4) (by decide) (by show _ < 126; omega) (by omega) dX4_burns_224 ?_
            have J225 : ∀ (j225_0 : mSt), j225_0 = (if (s214.2 9 (30 + 8 * k1 + 4)) = 0 then (setA s214 9 (30 + 8 * k1 + 3) 0) else s214) → Z X w 5 (zQ X w P PX) (mS m ad h0 j225_0) 0 0 [(0, .ref m), (1, .int (nI k1)), (2, .int a), (3, .int (a * (σ.2 9 (30 + 8 * k1 + 2)))), (4, .int (if (a * (σ.2 9 (30 + 8 * k1 + 2))) ≤ (σ.2 9 (30 + 8 * k1 + 4)) then (a * (σ.2 9 (30 + 8 * k1 + 2))) else (σ.2 9 (30 + 8 * k1 + 4))))] 239 [] := by
              intro j225_0 ej225_0
              subst ej225_0
              generalize hs239 : (if (s214.2 9 (30 + 8 * k1 + 4)) = 0 then (setA s214 9 (30 + 8 * k1 + 3) 0) else s214) = s239
              refine z_aload_n E dX4_burns_239 rfl 0 rfl ?_
              refine m_get E 9 (by decide) rfl q1679 rfl dX4_burns_240 ?_
              refine z_iload_n E dX4_burns_243 rfl 1 rfl ?_
              refine z_iconst (v := 1) E dX4_burns_244 (by decide) ?_
              refine z_callSi E (rest := [.ref (ad 9)]) (k' := 0) (n' := 0) cs_X4_in (mm_X4_in k1 1) q1790 rfl rfl (Nat.le_of_ble_eq_true rfl) (Nat.le_of_ble_eq_true rfl) (Nat.le_of_ble_eq_true rfl) dX4_burns_245 (Nat.le_refl _) (Nat.le_refl _) ?_
              refine m_ald E (j := 9) (q := 30 + 8 * k1 + 1) (by decide) (by show _ < 126; omega) (by omega) dX4_burns_248 ?_
              have J249 : ∀ (j249_0 : mSt), j249_0 = (if (s239.2 9 (30 + 8 * k1 + 1)) = 0 then (M_goes s239 k1) else s239) → Z X w 5 (zQ X w P PX) (mS m ad h0 j249_0) 0 0 [(0, .ref m), (1, .int (nI k1)), (2, .int a), (3, .int (a * (σ.2 9 (30 + 8 * k1 + 2)))), (4, .int (if (a * (σ.2 9 (30 + 8 * k1 + 2))) ≤ (σ.2 9 (30 + 8 * k1 + 4)) then (a * (σ.2 9 (30 + 8 * k1 + 2))) else (σ.2 9 (30 + 8 * k1 + 4))))] 257 [] := by
                intro j249_0 ej249_0
                subst ej249_0
                generalize hs257 : (if (s239.2 9 (30 + 8 * k1 + 1)) = 0 then (M_goes s239 k1) else s239) = s257
                refine z_iload E dX4_burns_257 4 rfl ?_
                exact z_iret E dX4_burns_259 (fun h9 q9 => hP _ _ h9 (by subst hs257 hs239 hs214 hs203 hs188 hs173 hs163 hs153 hk1; unfold M_burns; dsimp only; rw [if_neg c5, if_neg c23, if_pos c45, if_pos c76]) q9)
              refine z_if_ne (tgt := 257) E dX4_burns_249 (by decide) (fun c249 => ?_) (fun c249 => ?_)
              · exact J249 _ ((if_neg c249).symm)
              · refine z_aload_n E dX4_burns_252 rfl 0 rfl ?_
                refine z_iload_n E dX4_burns_253 rfl 1 rfl ?_
                refine z_callVv E (rest := []) (k' := 0) (n' := 0) cv_X4_goes (mm_X4_goes (σ := s239) k1 (by omega)) q1813 rfl mS_o rfl rfl (Nat.le_of_ble_eq_true rfl) (Nat.le_of_ble_eq_true rfl) (Nat.le_of_ble_eq_true rfl) dX4_burns_254 (Nat.le_refl _) (Nat.le_refl _) ?_
                generalize hs254 : M_goes s239 k1 = s254
                subst hs254
                exact J249 _ ((if_pos c249).symm)
            refine z_if_ne (tgt := 239) E dX4_burns_225 (by decide) (fun c225 => ?_) (fun c225 => ?_)
            · refine z_sub (lv' := [(0, .ref m), (1, .int (nI k1)), (2, .int a), (3, .int (a * (σ.2 9 (30 + 8 * k1 + 2)))), (4, .int (if (a * (σ.2 9 (30 + 8 * k1 + 2))) ≤ (σ.2 9 (30 + 8 * k1 + 4)) then (a * (σ.2 9 (30 + 8 * k1 + 2))) else (σ.2 9 (30 + 8 * k1 + 4))))]) [1, 2, 3, 4, 0] rfl ?_
              exact J225 _ ((if_neg c225).symm)
            · refine z_aload_n E dX4_burns_228 rfl 1 rfl ?_
              refine m_get E 9 (by decide) rfl q1679 rfl dX4_burns_229 ?_
              refine z_iload_n E dX4_burns_232 rfl 2 rfl ?_
              refine z_iconst (v := 3) E dX4_burns_233 (by decide) ?_
              refine z_callSi E (rest := [.ref (ad 9)]) (k' := 0) (n' := 0) cs_X4_in (mm_X4_in k1 3) q1790 rfl rfl (Nat.le_of_ble_eq_true rfl) (Nat.le_of_ble_eq_true rfl) (Nat.le_of_ble_eq_true rfl) dX4_burns_234 (Nat.le_refl _) (Nat.le_refl _) ?_
              refine z_iconst (v := 0) E dX4_burns_237 (by decide) ?_
              refine m_ast E (j := 9) (q := 30 + 8 * k1 + 3) (by decide) (by show _ < 126; omega) (by omega) dX4_burns_238 ?_
              generalize hs238 : setA s214 9 (30 + 8 * k1 + 3) 0 = s238
              subst hs238
              refine z_sub (lv' := [(0, .ref m), (1, .int (nI k1)), (2, .int a), (3, .int (a * (σ.2 9 (30 + 8 * k1 + 2)))), (4, .int (if (a * (σ.2 9 (30 + 8 * k1 + 2))) ≤ (σ.2 9 (30 + 8 * k1 + 4)) then (a * (σ.2 9 (30 + 8 * k1 + 2))) else (σ.2 9 (30 + 8 * k1 + 4))))]) [1, 2, 3, 4, 0] rfl ?_
              exact J225 _ ((if_pos c225).symm)
          refine z_icmp_ge (tgt := 137) E dX4_burns_121 (by decide) (fun c121 => ?_) (fun c121 => ?_)
          · refine z_iload_n E dX4_burns_137 rfl 0 rfl ?_
            refine z_sub (lv' := [(0, .ref m), (1, .int (nI k1)), (2, .int a), (3, .int (a * (σ.2 9 (30 + 8 * k1 + 2))))]) [1, 2, 3, 0] rfl ?_
            exact J121 _ ((if_pos c121).symm)
          · refine z_aload_n E dX4_burns_124 rfl 1 rfl ?_
            refine m_get E 9 (by decide) rfl q1679 rfl dX4_burns_125 ?_
            refine z_iload_n E dX4_burns_128 rfl 2 rfl ?_
            refine z_iconst (v := 4) E dX4_burns_129 (by decide) ?_
            refine z_callSi E (rest := [.ref (ad 9)]) (k' := 0) (n' := 0) cs_X4_in (mm_X4_in k1 4) q1790 rfl rfl (Nat.le_of_ble_eq_true rfl) (Nat.le_of_ble_eq_true rfl) (Nat.le_of_ble_eq_true rfl) dX4_burns_130 (Nat.le_refl _) (Nat.le_refl _) ?_
            refine m_ald E (j := 9) (q := 30 + 8 * k1 + 4) (by decide) (by show _ < 126; omega) (by omega) dX4_burns_133 ?_
            refine z_goto (tgt := 138) E dX4_burns_134 (by decide) ?_
            refine z_sub (lv' := [(0, .ref m), (1, .int (nI k1)), (2, .int a), (3, .int (a * (σ.2 9 (30 + 8 * k1 + 2))))]) [1, 2, 3, 0] rfl ?_
            exact J121 _ ((if_neg c121).symm)
        · refine z_aload_n E dX4_burns_79 rfl 0 rfl ?_
          refine z_iload_n E dX4_burns_80 rfl 1 rfl ?_
          refine z_bipush (v := 6) E dX4_burns_81 (by decide) ?_
          refine z_aload_n E dX4_burns_83 rfl 0 rfl ?_
          refine m_get E 9 (by decide) rfl q1679 rfl dX4_burns_84 ?_
          refine z_iload_n E dX4_burns_87 rfl 1 rfl ?_
          refine z_iconst (v := 1) E dX4_burns_88 (by decide) ?_
          refine z_callSi E (rest := [.ref (ad 9), .int 6, .int (nI k1), .ref m]) (k' := 0) (n' := 0) cs_X4_in (mm_X4_in k1 1) q1790 rfl rfl (Nat.le_of_ble_eq_true rfl) (Nat.le_of_ble_eq_true rfl) (Nat.le_of_ble_eq_true rfl) dX4_burns_89 (Nat.le_refl _) (Nat.le_refl _) ?_
          refine m_ald E (j := 9) (q := 30 + 8 * k1 + 1) (by decide) (by show _ < 126; omega) (by omega) dX4_burns_92 ?_
          refine z_callVi E (rest := []) (k' := 0) (n' := 0) cv_X4_refusesBurning (mm_X4_refusesBurning (σ := σ) (nI k1) 6 (σ.2 9 (30 + 8 * k1 + 1))) q1809 rfl mS_o rfl rfl (Nat.le_of_ble_eq_true rfl) (Nat.le_of_ble_eq_true rfl) (Nat.le_of_ble_eq_true rfl) dX4_burns_93 (Nat.le_refl _) (Nat.le_refl _) ?_
          generalize hs93 : (M_refusesBurning σ (nI k1) 6 (σ.2 9 (30 + 8 * k1 + 1))).2 = s93
          exact z_iret E dX4_burns_96 (fun h9 q9 => hP _ _ h9 (by subst hs93 hk1; unfold M_burns; dsimp only; rw [if_neg c5, if_neg c23, if_pos c45, if_neg c76]) q9)
      · refine z_aload_n E dX4_burns_48 rfl 0 rfl ?_
        refine z_iload_n E dX4_burns_49 rfl 1 rfl ?_
        refine z_iconst (v := 5) E dX4_burns_50 (by decide) ?_
        refine z_aload_n E dX4_burns_51 rfl 0 rfl ?_
        refine m_get E 9 (by decide) rfl q1679 rfl dX4_burns_52 ?_
        refine z_iload_n E dX4_burns_55 rfl 1 rfl ?_
        refine z_iconst (v := 5) E dX4_burns_56 (by decide) ?_
        refine z_callSi E (rest := [.ref (ad 9), .int 5, .int (nI k1), .ref m]) (k' := 0) (n' := 0) cs_X4_in (mm_X4_in k1 5) q1790 rfl rfl (Nat.le_of_ble_eq_true rfl) (Nat.le_of_ble_eq_true rfl) (Nat.le_of_ble_eq_true rfl) dX4_burns_57 (Nat.le_refl _) (Nat.le_refl _) ?_
        refine m_ald E (j := 9) (q := 30 + 8 * k1 + 5) (by decide) (by show _ < 126; omega) (by omega) dX4_burns_60 ?_
        refine z_callVi E (rest := []) (k' := 0) (n' := 0) cv_X4_refusesBurning (mm_X4_refusesBurning (σ := σ) (nI k1) 5 (σ.2 9 (30 + 8 * k1 + 5))) q1809 rfl mS_o rfl rfl (Nat.le_of_ble_eq_true rfl) (Nat.le_of_ble_eq_true rfl) (Nat.le_of_ble_eq_true rfl) dX4_burns_61 (Nat.le_refl _) (Nat.le_refl _) ?_
        generalize hs61 : (M_refusesBurning σ (nI k1) 5 (σ.2 9 (30 + 8 * k1 + 5))).2 = s61
        exact z_iret E dX4_burns_64 (fun h9 q9 => hP _ _ h9 (by subst hs61 hk1; unfold M_burns; dsimp only; rw [if_neg c5, if_neg c23, if_neg c45]) q9)
    · refine z_aload_n E dX4_burns_26 rfl 0 rfl ?_
      refine z_sipush (v := -1012) E dX4_burns_27 (by decide) ?_
      refine z_callVi E (rest := []) (k' := 0) (n' := 0) cv_X4_fail (mm_X4_fail (σ := σ) (-1012)) q1767 rfl mS_o rfl rfl (Nat.le_of_ble_eq_true rfl) (Nat.le_of_ble_eq_true rfl) (Nat.le_of_ble_eq_true rfl) dX4_burns_30 (Nat.le_refl _) (Nat.le_refl _) ?_
      generalize hs30 : (M_fail σ (-1012)).2 = s30
      exact z_iret E dX4_burns_33 (fun h9 q9 => hP _ _ h9 (by subst hs30 hk1; unfold M_burns; dsimp only; rw [if_neg c5, if_pos c23]) q9)
  · refine z_aload_n E dX4_burns_8 rfl 0 rfl ?_
    refine z_sipush (v := -1011) E dX4_burns_9 (by decide) ?_
    refine z_callVi E (rest := []) (k' := 0) (n' := 0) cv_X4_fail (mm_X4_fail (σ := σ) (-1011)) q1767 rfl mS_o rfl rfl (Nat.le_of_ble_eq_true rfl) (Nat.le_of_ble_eq_true rfl) (Nat.le_of_ble_eq_true rfl) dX4_burns_12 (Nat.le_refl _) (Nat.le_refl _) ?_
    generalize hs12 : (M_fail σ (-1011)).2 = s12
    exact z_iret E dX4_burns_15 (fun h9 q9 => hP _ _ h9 (by subst hs12; unfold M_burns; dsimp only; rw [if_pos c5]) q9)
theorem mm_X4_burns {l : Launch} {w : zWd} {m : Nat} {ad : Nat → Nat} {h0 : zH} {σ : mSt} (n : Nat) (s a : Int32) (I : MI (σ.2 9) n) : ZM l w yX4_burns (ws_ yX4_burns cX4_burns 5 (some .int)) 3 67 0 0 [.ref m, .int s, .int a] (mS m ad h0 σ) (zri (M_burns σ n s a).1 (mS m ad h0 (M_burns σ n s a).2)) zno :=
  zm_of (by decide) rfl (Nat.le_of_ble_eq_true rfl) (fun X _ E => mb_X4_burns n s a I E (fun r s h e q => by rw [← e]; exact ⟨rfl, q⟩))
theorem cv_X4_owes : zCV yX4_owes RX4 cX4_owes 4 (some .int) 3 := ⟨⟨q1823, qs47, q95, q1824⟩, by decide +kernel⟩
def M_owes (σ : mSt) (n : Nat) (s h a : Int32) : Int32 × mSt :=
  if (M_isStub σ s) = 0 then
    let s19 := (M_fail σ (-1011)).2
    ((M_fail σ (-1011)).1, s19)
  else
    if (M_isHouse h) = 0 then
      let s19 := (M_fail σ (-1011)).2
      ((M_fail σ (-1011)).1, s19)
    else
      let k1 := s.toNatClampNeg
      let k2 := h.toNatClampNeg
      if (M_isIn a 1 90) = 0 then
        let s37 := (M_fail σ (-1012)).2
        ((M_fail σ (-1012)).1, s37)
      else
        if (M_isOpen σ k2) = 0 then
          let s52 := (M_refuses σ 2 (nI k2)).2
          ((M_refuses σ 2 (nI k2)).1, s52)
        else
          if (σ.2 9 (30 + 8 * k1 + 0)) = (nI k2) then
            let s74 := (M_refuses σ 8 (nI k2)).2
            ((M_refuses σ 8 (nI k2)).1, s74)
          else
            if (σ.2 9 (30 + 8 * k1 + 3)) ≤ 0 then
              let s122 := setA σ 9 (30 + 8 * k1 + 3) (nI (k2 + 1))
              let s133 := setA s122 9 (30 + 8 * k1 + 4) a
              (M_owed s133 n (nI k2), s133)
            else
              let s106 := (M_refuses σ 7 ((σ.2 9 (30 + 8 * k1 + 3)) - 1)).2
              ((M_refuses σ 7 ((σ.2 9 (30 + 8 * k1 + 3)) - 1)).1, s106)
set_option maxHeartbeats 4000000 in
theorem mb_X4_owes {X : zX} {w : zWd} {m : Nat} {ad : Nat → Nat} {h0 : zH} {σ : mSt} {P : Option Value → zH → Prop} {PX : Nat → zH → Prop} (n : Nat) (s h a : Int32) (I : MI (σ.2 9) n) (E : zOK X w RX4 cX4_owes 4 2 44 [] (some .int) "owes") (hP : ∀ r9 s9 h9, (r9, s9) = M_owes σ n s h a → mS m ad h0 s9 h9 → P (some (.int r9)) h9) : Z X w 4 (zQ X w P PX) (mS m ad h0 σ) 0 0 [(0, .ref m), (1, .int s), (2, .int h), (3, .int a)] 0 [] := by
  have hn12 := I.2.1
  refine z_aload_n E dX4_owes_0 rfl 0 rfl ?_
  refine z_iload_n E dX4_owes_1 rfl 1 rfl ?_
  refine z_callVi E (rest := []) (k' := 0) (n' := 0) cv_X4_isStub (mm_X4_isStub (σ := σ) s) q1805 rfl mS_o rfl rfl (Nat.le_of_ble_eq_true rfl) (Nat.le_of_ble_eq_true rfl) (Nat.le_of_ble_eq_true rfl) dX4_owes_2 (Nat.le_refl _) (Nat.le_refl _) ?_
  refine z_if_eq (tgt := 15) E dX4_owes_5 (by decide) (fun c5 => ?_) (fun c5 => ?_)
  · refine z_aload_n E dX4_owes_15 rfl 0 rfl ?_
    refine z_sipush (v := -1011) E dX4_owes_16 (by decide) ?_
    refine z_callVi E (rest := []) (k' := 0) (n' := 0) cv_X4_fail (mm_X4_fail (σ := σ) (-1011)) q1767 rfl mS_o rfl rfl (Nat.le_of_ble_eq_true rfl) (Nat.le_of_ble_eq_true rfl) (Nat.le_of_ble_eq_true rfl) dX4_owes_19 (Nat.le_refl _) (Nat.le_refl _) ?_
    generalize hs19 : (M_fail σ (-1011)).2 = s19
    exact z_iret E dX4_owes_22 (fun h9 q9 => hP _ _ h9 (by subst hs19; unfold M_owes; dsimp only; rw [if_pos c5]) q9)
  · refine z_iload_n E dX4_owes_8 rfl 2 rfl ?_
    refine z_callSi E (rest := []) (k' := 0) (n' := 0) cs_X4_isHouse (mm_X4_isHouse h) q1761 rfl rfl (Nat.le_of_ble_eq_true rfl) (Nat.le_of_ble_eq_true rfl) (Nat.le_of_ble_eq_true rfl) dX4_owes_9 (Nat.le_refl _) (Nat.le_refl _) ?_
    refine z_if_ne (tgt := 23) E dX4_owes_12 (by decide) (fun c12 => ?_) (fun c12 => ?_)
    · have hk1p := zStub_e I c5
      generalize hk1 : s.toNatClampNeg = k1 at hk1p ⊢
      have hk1l := hk1p.2
      rw [hk1p.1]
      have hk2p := zHouse_e c12
      generalize hk2 : h.toNatClampNeg = k2 at hk2p ⊢
      have hk2l := hk2p.2
      rw [hk2p.1]
      refine z_iload_n E dX4_owes_23 rfl 3 rfl ?_
      refine z_iconst (v := 1) E dX4_owes_24 (by decide) ?_
      refine z_bipush (v := 90) E dX4_owes_25 (by decide) ?_
      refine z_callSi E (rest := []) (k' := 0) (n' := 0) cs_X4_isIn (mm_X4_isIn a 1 90) q1764 rfl rfl (Nat.le_of_ble_eq_true rfl) (Nat.le_of_ble_eq_true rfl) (Nat.le_of_ble_eq_true rfl) dX4_owes_27 (Nat.le_refl _) (Nat.le_refl _) ?_
      refine z_if_ne (tgt := 41) E dX4_owes_30 (by decide) (fun c30 => ?_) (fun c30 => ?_)
      · refine z_aload_n E dX4_owes_41 rfl 0 rfl ?_
        refine z_iload_n E dX4_owes_42 rfl 2 rfl ?_
        refine z_callVi E (rest := []) (k' := 0) (n' := 0) cv_X4_isOpen (mm_X4_isOpen (σ := σ) k2 (by omega)) q1774 rfl mS_o rfl rfl (Nat.le_of_ble_eq_true rfl) (Nat.le_of_ble_eq_true rfl) (Nat.le_of_ble_eq_true rfl) dX4_owes_43 (Nat.le_refl _) (Nat.le_refl _) ?_
        refine z_if_ne (tgt := 56) E dX4_owes_46 (by decide) (fun c46 => ?_) (fun c46 => ?_)
        · refine z_aload_n E dX4_owes_56 rfl 0 rfl ?_
          refine m_get E 9 (by decide) rfl q1679 rfl dX4_owes_57 ?_
          refine z_iload_n E dX4_owes_60 rfl 1 rfl ?_
          refine z_iconst (v := 0) E dX4_owes_61 (by decide) ?_
          refine z_callSi E (rest := [.ref (ad 9)]) (k' := 0) (n' := 0) cs_X4_in (mm_X4_in k1 0) q1790 rfl rfl (Nat.le_of_ble_eq_true rfl) (Nat.le_of_ble_eq_true rfl) (Nat.le_of_ble_eq_true rfl) dX4_owes_62 (Nat.le_refl _) (Nat.le_refl _) ?_
          refine m_ald E (j := 9) (q := 30 + 8 * k1 + 0) (by decide) (by show _ < 126; omega) (by omega) dX4_owes_65 ?_
          refine z_iload_n E dX4_owes_66 rfl 2 rfl ?_
          refine z_icmp_ne (tgt := 78) E dX4_owes_67 (by decide) (fun c67 => ?_) (fun c67 => ?_)
          · refine z_aload_n E dX4_owes_78 rfl 0 rfl ?_
            refine m_get E 9 (by decide) rfl q1679 rfl dX4_owes_79 ?_
            refine z_iload_n E dX4_owes_82 rfl 1 rfl ?_
            refine z_iconst (v := 3) E dX4_owes_83 (by decide) ?_
            refine z_callSi E (rest := [.ref (ad 9)]) (k' := 0) (n' := 0) cs_X4_in (mm_X4_in k1 3) q1790 rfl rfl (Nat.le_of_ble_eq_true rfl) (Nat.le_of_ble_eq_true rfl) (Nat.le_of_ble_eq_true rfl) dX4_owes_84 (Nat.le_refl _) (Nat.le_refl _) ?_
            refine m_ald E (j := 9) (q := 30 + 8 * k1 + 3) (by decide) (by show _ < 126; omega) (by omega) dX4_owes_87 ?_
            refine z_if_le (tgt := 110) E dX4_owes_88 (by decide) (fun c88 => ?_) (fun c88 => ?_)
            · refine z_aload_n E dX4_owes_110 rfl 0 rfl ?_
              refine m_get E 9 (by decide) rfl q1679 rfl dX4_owes_111 ?_
              refine z_iload_n E dX4_owes_114 rfl 1 rfl ?_
              refine z_iconst (v := 3) E dX4_owes_115 (by decide) ?_
              refine z_callSi E (rest := [.ref (ad 9)]) (k' := 0) (n' := 0) cs_X4_in (mm_X4_in k1 3) q1790 rfl rfl (Nat.le_of_ble_eq_true rfl) (Nat.le_of_ble_eq_true rfl) (Nat.le_of_ble_eq_true rfl) dX4_owes_116 (Nat.le_refl _) (Nat.le_refl _) ?_
              refine z_iload_n E dX4_owes_119 rfl 2 rfl ?_
              refine z_iconst (v := 1) E dX4_owes_120 (by decide) ?_
              refine z_iaddN (a := k2) (b := 1) E dX4_owes_121 ?_
              refine m_ast E (j := 9) (q := 30 + 8 * k1 + 3) (by decide) (by show _ < 126; omega) (by omega) dX4_owes_122 ?_
              generalize hs122 : setA σ 9 (30 + 8 * k1 + 3) (nI (k2 + 1)) = s122
              refine z_aload_n E dX4_owes_123 rfl 0 rfl ?_
              refine m_get E 9 (by decide) rfl q1679 rfl dX4_owes_124 ?_
              refine z_iload_n E dX4_owes_127 rfl 1 rfl ?_
              refine z_iconst (v := 4) E dX4_owes_128 (by decide) ?_
              refine z_callSi E (rest := [.ref (ad 9)]) (k' := 0) (n' := 0) cs_X4_in (mm_X4_in k1 4) q1790 rfl rfl (Nat.le_of_ble_eq_true rfl) (Nat.le_of_ble_eq_true rfl) (Nat.le_of_ble_eq_true rfl) dX4_owes_129 (Nat.le_refl _) (Nat.le_refl _) ?_
              refine z_iload_n E dX4_owes_132 rfl 3 rfl ?_
              refine m_ast E (j := 9) (q := 30 + 8 * k1 + 4) (by decide) (by show _ < 126; omega) (by omega) dX4_owes_133 ?_
              generalize hs133 : setA s122 9 (30 + 8 * k1 + 4) a = s133
              refine z_aload_n E dX4_owes_134 rfl 0 rfl ?_
              refine z_iload_n E dX4_owes_135 rfl 2 rfl ?_
              refine z_callVi E (rest := []) (k' := 0) (n' := 0) cv_X4_owed (mm_X4_owed (σ := s133) n (nI k2) ((by rw [← hs133]; exact (MI_k (by rw [← hs122]; exact (MI_k I (by omega) (fun _ _ => by omega) (fun _ _ => by omega) (fun _ _ => by omega))) (by omega) (fun _ _ => by omega) (fun _ _ => by omega) (fun _ _ => by omega))))) q1825 rfl mS_o rfl rfl (Nat.le_of_ble_eq_true rfl) (Nat.le_of_ble_eq_true rfl) (Nat.le_of_ble_eq_true rfl) dX4_owes_136 (Nat.le_refl _) (Nat.le_refl _) ?_
              exact z_iret E dX4_owes_139 (fun h9 q9 => hP _ _ h9 (by subst hs133 hs122 hk2 hk1; unfold M_owes; dsimp only; rw [if_neg c5, if_neg c12, if_neg c30, if_neg c46, if_neg c67, if_pos c88]) q9)
            · refine z_aload_n E dX4_owes_91 rfl 0 rfl ?_
              refine z_bipush (v := 7) E dX4_owes_92 (by decide) ?_
              refine z_aload_n E dX4_owes_94 rfl 0 rfl ?_
              refine m_get E 9 (by decide) rfl q1679 rfl dX4_owes_95 ?_
              refine z_iload_n E dX4_owes_98 rfl 1 rfl ?_
              refine z_iconst (v := 3) E dX4_owes_99 (by decide) ?_
              refine z_callSi E (rest := [.ref (ad 9), .int 7, .ref m]) (k' := 0) (n' := 0) cs_X4_in (mm_X4_in k1 3) q1790 rfl rfl (Nat.le_of_ble_eq_true rfl) (Nat.le_of_ble_eq_true rfl) (Nat.le_of_ble_eq_true rfl) dX4_owes_100 (Nat.le_refl _) (Nat.le_refl _) ?_
              refine m_ald E (j := 9) (q := 30 + 8 * k1 + 3) (by decide) (by show _ < 126; omega) (by omega) dX4_owes_103 ?_
              refine z_iconst (v := 1) E dX4_owes_104 (by decide) ?_
              refine z_isub E dX4_owes_105 ?_
              refine z_callVi E (rest := []) (k' := 0) (n' := 0) cv_X4_refuses (mm_X4_refuses (σ := σ) 7 ((σ.2 9 (30 + 8 * k1 + 3)) - 1)) q1778 rfl mS_o rfl rfl (Nat.le_of_ble_eq_true rfl) (Nat.le_of_ble_eq_true rfl) (Nat.le_of_ble_eq_true rfl) dX4_owes_106 (Nat.le_refl _) (Nat.le_refl _) ?_
              generalize hs106 : (M_refuses σ 7 ((σ.2 9 (30 + 8 * k1 + 3)) - 1)).2 = s106
              exact z_iret E dX4_owes_109 (fun h9 q9 => hP _ _ h9 (by subst hs106 hk2 hk1; unfold M_owes; dsimp only; rw [if_neg c5, if_neg c12, if_neg c30, if_neg c46, if_neg c67, if_neg c88]) q9)
          · refine z_aload_n E dX4_owes_70 rfl 0 rfl ?_
            refine z_bipush (v := 8) E dX4_owes_71 (by decide) ?_
            refine z_iload_n E dX4_owes_73 rfl 2 rfl ?_
            refine z_callVi E (rest := []) (k' := 0) (n' := 0) cv_X4_refuses (mm_X4_refuses (σ := σ) 8 (nI k2)) q1778 rfl mS_o rfl rfl (Nat.le_of_ble_eq_true rfl) (Nat.le_of_ble_eq_true rfl) (Nat.le_of_ble_eq_true rfl) dX4_owes_74 (Nat.le_refl _) (Nat.le_refl _) ?_
            generalize hs74 : (M_refuses σ 8 (nI k2)).2 = s74
            exact z_iret E dX4_owes_77 (fun h9 q9 => hP _ _ h9 (by subst hs74 hk2 hk1; unfold M_owes; dsimp only; rw [if_neg c5, if_neg c12, if_neg c30, if_neg c46, if_pos c67]) q9)
        · refine z_aload_n E dX4_owes_49 rfl 0 rfl ?_
          refine z_iconst (v := 2) E dX4_owes_50 (by decide) ?_
          refine z_iload_n E dX4_owes_51 rfl 2 rfl ?_
          refine z_callVi E (rest := []) (k' := 0) (n' := 0) cv_X4_refuses (mm_X4_refuses (σ := σ) 2 (nI k2)) q1778 rfl mS_o rfl rfl (Nat.le_of_ble_eq_true rfl) (Nat.le_of_ble_eq_true rfl) (Nat.le_of_ble_eq_true rfl) dX4_owes_52 (Nat.le_refl _) (Nat.le_refl _) ?_
          generalize hs52 : (M_refuses σ 2 (nI k2)).2 = s52
          exact z_iret E dX4_owes_55 (fun h9 q9 => hP _ _ h9 (by subst hs52 hk2 hk1; unfold M_owes; dsimp only; rw [if_neg c5, if_neg c12, if_neg c30, if_pos c46]) q9)
      · refine z_aload_n E dX4_owes_33 rfl 0 rfl ?_
        refine z_sipush (v := -1012) E dX4_owes_34 (by decide) ?_
        refine z_callVi E (rest := []) (k' := 0) (n' := 0) cv_X4_fail (mm_X4_fail (σ := σ) (-1012)) q1767 rfl mS_o rfl rfl (Nat.le_of_ble_eq_true rfl) (Nat.le_of_ble_eq_true rfl) (Nat.le_of_ble_eq_true rfl) dX4_owes_37 (Nat.le_refl _) (Nat.le_refl _) ?_
        generalize hs37 : (M_fail σ (-1012)).2 = s37
        exact z_iret E dX4_owes_40 (fun h9 q9 => hP _ _ h9 (by subst hs37 hk2 hk1; unfold M_owes; dsimp only; rw [if_neg c5, if_neg c12, if_pos c30]) q9)
    · refine z_aload_n E dX4_owes_15 rfl 0 rfl ?_
      refine z_sipush (v := -1011) E dX4_owes_16 (by decide) ?_
      refine z_callVi E (rest := []) (k' := 0) (n' := 0) cv_X4_fail (mm_X4_fail (σ := σ) (-1011)) q1767 rfl mS_o rfl rfl (Nat.le_of_ble_eq_true rfl) (Nat.le_of_ble_eq_true rfl) (Nat.le_of_ble_eq_true rfl) dX4_owes_19 (Nat.le_refl _) (Nat.le_refl _) ?_
      generalize hs19 : (M_fail σ (-1011)).2 = s19
      exact z_iret E dX4_owes_22 (fun h9 q9 => hP _ _ h9 (by subst hs19; unfold M_owes; dsimp only; rw [if_neg c5, if_pos c12]) q9)
theorem mm_X4_owes {l : Launch} {w : zWd} {m : Nat} {ad : Nat → Nat} {h0 : zH} {σ : mSt} (n : Nat) (s h a : Int32) (I : MI (σ.2 9) n) : ZM l w yX4_owes (ws_ yX4_owes cX4_owes 4 (some .int)) 2 44 0 0 [.ref m, .int s, .int h, .int a] (mS m ad h0 σ) (zri (M_owes σ n s h a).1 (mS m ad h0 (M_owes σ n s h a).2)) zno :=
  zm_of (by decide) rfl (Nat.le_of_ble_eq_true rfl) (fun X _ E => mb_X4_owes n s h a I E (fun r s h e q => by rw [← e]; exact ⟨rfl, q⟩))
theorem cv_X4_snuffs : zCV yX4_snuffs RX4 cX4_snuffs 4 (some .int) 3 := ⟨⟨q1835, qs49, q95, q1836⟩, by decide +kernel⟩
def M_snuffs (σ : mSt) (n : Nat) (h s a : Int32) : Int32 × mSt :=
  if (M_isHouse h) = 0 then
    let s19 := (M_fail σ (-1011)).2
    ((M_fail σ (-1011)).1, s19)
  else
    if (M_isStub σ s) = 0 then
      let s19 := (M_fail σ (-1011)).2
      ((M_fail σ (-1011)).1, s19)
    else
      let k1 := h.toNatClampNeg
      let k2 := s.toNatClampNeg
      if (M_isIn a 1 24) = 0 then
        let s37 := (M_fail σ (-1012)).2
        ((M_fail σ (-1012)).1, s37)
      else
        if (M_isOpen σ k1) = 0 then
          let s52 := (M_refuses σ 2 (nI k1)).2
          ((M_refuses σ 2 (nI k1)).1, s52)
        else
          if (σ.2 9 (30 + 8 * k2 + 0)) = (nI k1) then
            let s74 := (M_refuses σ 8 (nI k1)).2
            ((M_refuses σ 8 (nI k1)).1, s74)
          else
            if (σ.2 9 (30 + 8 * k2 + 6)) ≤ 0 then
              if (M_writs σ n (nI k1)) = 2 then
                let s121 := (M_refuses σ 1 2).2
                ((M_refuses σ 1 2).1, s121)
              else
                let s138 := setA σ 9 (30 + 8 * k2 + 6) (nI (k1 + 1))
                let s149 := setA s138 9 (30 + 8 * k2 + 5) a
                (M_writs s149 n (-1), s149)
            else
              let s105 := (M_refuses σ 9 (σ.2 9 (30 + 8 * k2 + 5))).2
              ((M_refuses σ 9 (σ.2 9 (30 + 8 * k2 + 5))).1, s105)
set_option maxHeartbeats 4000000 in
theorem mb_X4_snuffs {X : zX} {w : zWd} {m : Nat} {ad : Nat → Nat} {h0 : zH} {σ : mSt} {P : Option Value → zH → Prop} {PX : Nat → zH → Prop} (n : Nat) (h s a : Int32) (I : MI (σ.2 9) n) (E : zOK X w RX4 cX4_snuffs 4 2 44 [] (some .int) "snuffs") (hP : ∀ r9 s9 h9, (r9, s9) = M_snuffs σ n h s a → mS m ad h0 s9 h9 → P (some (.int r9)) h9) : Z X w 4 (zQ X w P PX) (mS m ad h0 σ) 0 0 [(0, .ref m), (1, .int h), (2, .int s), (3, .int a)] 0 [] := by
  have hn12 := I.2.1
  refine z_iload_n E dX4_snuffs_0 rfl 1 rfl ?_
  refine z_callSi E (rest := []) (k' := 0) (n' := 0) cs_X4_isHouse (mm_X4_isHouse h) q1761 rfl rfl (Nat.le_of_ble_eq_true rfl) (Nat.le_of_ble_eq_true rfl) (Nat.le_of_ble_eq_true rfl) dX4_snuffs_1 (Nat.le_refl _) (Nat.le_refl _) ?_
  refine z_if_eq (tgt := 15) E dX4_snuffs_4 (by decide) (fun c4 => ?_) (fun c4 => ?_)
  · refine z_aload_n E dX4_snuffs_15 rfl 0 rfl ?_
    refine z_sipush (v := -1011) E dX4_snuffs_16 (by decide) ?_
    refine z_callVi E (rest := []) (k' := 0) (n' := 0) cv_X4_fail (mm_X4_fail (σ := σ) (-1011)) q1767 rfl mS_o rfl rfl (Nat.le_of_ble_eq_true rfl) (Nat.le_of_ble_eq_true rfl) (Nat.le_of_ble_eq_true rfl) dX4_snuffs_19 (Nat.le_refl _) (Nat.le_refl _) ?_
    generalize hs19 : (M_fail σ (-1011)).2 = s19
    exact z_iret E dX4_snuffs_22 (fun h9 q9 => hP _ _ h9 (by subst hs19; unfold M_snuffs; dsimp only; rw [if_pos c4]) q9)
  · refine z_aload_n E dX4_snuffs_7 rfl 0 rfl ?_
    refine z_iload_n E dX4_snuffs_8 rfl 2 rfl ?_
    refine z_callVi E (rest := []) (k' := 0) (n' := 0) cv_X4_isStub (mm_X4_isStub (σ := σ) s) q1805 rfl mS_o rfl rfl (Nat.le_of_ble_eq_true rfl) (Nat.le_of_ble_eq_true rfl) (Nat.le_of_ble_eq_true rfl) dX4_snuffs_9 (Nat.le_refl _) (Nat.le_refl _) ?_
    refine z_if_ne (tgt := 23) E dX4_snuffs_12 (by decide) (fun c12 => ?_) (fun c12 => ?_)
    · have hk1p := zHouse_e c4
      generalize hk1 : h.toNatClampNeg = k1 at hk1p ⊢
      have hk1l := hk1p.2
      rw [hk1p.1]
      have hk2p := zStub_e I c12
      generalize hk2 : s.toNatClampNeg = k2 at hk2p ⊢
      have hk2l := hk2p.2
      rw [hk2p.1]
      refine z_iload_n E dX4_snuffs_23 rfl 3 rfl ?_
      refine z_iconst (v := 1) E dX4_snuffs_24 (by decide) ?_
      refine z_bipush (v := 24) E dX4_snuffs_25 (by decide) ?_
      refine z_callSi E (rest := []) (k' := 0) (n' := 0) cs_X4_isIn (mm_X4_isIn a 1 24) q1764 rfl rfl (Nat.le_of_ble_eq_true rfl) (Nat.le_of_ble_eq_true rfl) (Nat.le_of_ble_eq_true rfl) dX4_snuffs_27 (Nat.le_refl _) (Nat.le_refl _) ?_
      refine z_if_ne (tgt := 41) E dX4_snuffs_30 (by decide) (fun c30 => ?_) (fun c30 => ?_)
      · refine z_aload_n E dX4_snuffs_41 rfl 0 rfl ?_
        refine z_iload_n E dX4_snuffs_42 rfl 1 rfl ?_
        refine z_callVi E (rest := []) (k' := 0) (n' := 0) cv_X4_isOpen (mm_X4_isOpen (σ := σ) k1 (by omega)) q1774 rfl mS_o rfl rfl (Nat.le_of_ble_eq_true rfl) (Nat.le_of_ble_eq_true rfl) (Nat.le_of_ble_eq_true rfl) dX4_snuffs_43 (Nat.le_refl _) (Nat.le_refl _) ?_
        refine z_if_ne (tgt := 56) E dX4_snuffs_46 (by decide) (fun c46 => ?_) (fun c46 => ?_)
        · refine z_aload_n E dX4_snuffs_56 rfl 0 rfl ?_
          refine m_get E 9 (by decide) rfl q1679 rfl dX4_snuffs_57 ?_
          refine z_iload_n E dX4_snuffs_60 rfl 2 rfl ?_
          refine z_iconst (v := 0) E dX4_snuffs_61 (by decide) ?_
          refine z_callSi E (rest := [.ref (ad 9)]) (k' := 0) (n' := 0) cs_X4_in (mm_X4_in k2 0) q1790 rfl rfl (Nat.le_of_ble_eq_true rfl) (Nat.le_of_ble_eq_true rfl) (Nat.le_of_ble_eq_true rfl) dX4_snuffs_62 (Nat.le_refl _) (Nat.le_refl _) ?_
          refine m_ald E (j := 9) (q := 30 + 8 * k2 + 0) (by decide) (by show _ < 126; omega) (by omega) dX4_snuffs_65 ?_
          refine z_iload_n E dX4_snuffs_66 rfl 1 rfl ?_
          refine z_icmp_ne (tgt := 78) E dX4_snuffs_67 (by decide) (fun c67 => ?_) (fun c67 => ?_)
          · refine z_aload_n E dX4_snuffs_78 rfl 0 rfl ?_
            refine m_get E 9 (by decide) rfl q1679 rfl dX4_snuffs_79 ?_
            refine z_iload_n E dX4_snuffs_82 rfl 2 rfl ?_
            refine z_bipush (v := 6) E dX4_snuffs_83 (by decide) ?_
            refine z_callSi E (rest := [.ref (ad 9)]) (k' := 0) (n' := 0) cs_X4_in (mm_X4_in k2 6) q1790 rfl rfl (Nat.le_of_ble_eq_true rfl) (Nat.le_of_ble_eq_true rfl) (Nat.le_of_ble_eq_true rfl) dX4_snuffs_85 (Nat.le_refl _) (Nat.le_refl _) ?_
            refine m_ald E (j := 9) (q := 30 + 8 * k2 + 6) (by decide) (by show _ < 126; omega) (by omega) dX4_snuffs_88 ?_
            refine z_if_le (tgt := 109) E dX4_snuffs_89 (by decide) (fun c89 => ?_) (fun c89 => ?_)
            · refine z_aload_n E dX4_snuffs_109 rfl 0 rfl ?_
              refine z_iload_n E dX4_snuffs_110 rfl 1 rfl ?_
              refine z_callVi E (rest := []) (k' := 0) (n' := 0) cv_X4_writs (mm_X4_writs (σ := σ) n (nI k1) (I)) q1837 rfl mS_o rfl rfl (Nat.le_of_ble_eq_true rfl) (Nat.le_of_ble_eq_true rfl) (Nat.le_of_ble_eq_true rfl) dX4_snuffs_111 (Nat.le_refl _) (Nat.le_refl _) ?_
              refine z_iconst (v := 2) E dX4_snuffs_114 (by decide) ?_
              refine z_icmp_ne (tgt := 125) E dX4_snuffs_115 (by decide) (fun c115 => ?_) (fun c115 => ?_)
              · refine z_aload_n E dX4_snuffs_125 rfl 0 rfl ?_
                refine m_get E 9 (by decide) rfl q1679 rfl dX4_snuffs_126 ?_
                refine z_iload_n E dX4_snuffs_129 rfl 2 rfl ?_
                refine z_bipush (v := 6) E dX4_snuffs_130 (by decide) ?_
                refine z_callSi E (rest := [.ref (ad 9)]) (k' := 0) (n' := 0) cs_X4_in (mm_X4_in k2 6) q1790 rfl rfl (Nat.le_of_ble_eq_true rfl) (Nat.le_of_ble_eq_true rfl) (Nat.le_of_ble_eq_true rfl) dX4_snuffs_132 (Nat.le_refl _) (Nat.le_refl _) ?_
                refine z_iload_n E dX4_snuffs_135 rfl 1 rfl ?_
                refine z_iconst (v := 1) E dX4_snuffs_136 (by decide) ?_
                refine z_iaddN (a := k1) (b := 1) E dX4_snuffs_137 ?_
                refine m_ast E (j := 9) (q := 30 + 8 * k2 + 6) (by decide) (by show _ < 126; omega) (by omega) dX4_snuffs_138 ?_
                generalize hs138 : setA σ 9 (30 + 8 * k2 + 6) (nI (k1 + 1)) = s138
                refine z_aload_n E dX4_snuffs_139 rfl 0 rfl ?_
                refine m_get E 9 (by decide) rfl q1679 rfl dX4_snuffs_140 ?_
                refine z_iload_n E dX4_snuffs_143 rfl 2 rfl ?_
                refine z_iconst (v := 5) E dX4_snuffs_144 (by decide) ?_
                refine z_callSi E (rest := [.ref (ad 9)]) (k' := 0) (n' := 0) cs_X4_in (mm_X4_in k2 5) q1790 rfl rfl (Nat.le_of_ble_eq_true rfl) (Nat.le_of_ble_eq_true rfl) (Nat.le_of_ble_eq_true rfl) dX4_snuffs_145 (Nat.le_refl _) (Nat.le_refl _) ?_
                refine z_iload_n E dX4_snuffs_148 rfl 3 rfl ?_
                refine m_ast E (j := 9) (q := 30 + 8 * k2 + 5) (by decide) (by show _ < 126; omega) (by omega) dX4_snuffs_149 ?_
                generalize hs149 : setA s138 9 (30 + 8 * k2 + 5) a = s149
                refine z_aload_n E dX4_snuffs_150 rfl 0 rfl ?_
                refine z_iconst (v := -1) E dX4_snuffs_151 (by decide) ?_
                refine z_callVi E (rest := []) (k' := 0) (n' := 0) cv_X4_writs (mm_X4_writs (σ := s149) n (-1) ((by rw [← hs149]; exact (MI_k (by rw [← hs138]; exact (MI_k I (by omega) (fun _ _ => by omega) (fun _ _ => by omega) (fun _ _ => by omega))) (by omega) (fun _ _ => by omega) (fun _ _ => by omega) (fun _ _ => by omega))))) q1837 rfl mS_o rfl rfl (Nat.le_of_ble_eq_true rfl) (Nat.le_of_ble_eq_true rfl) (Nat.le_of_ble_eq_true rfl) dX4_snuffs_152 (Nat.le_refl _) (Nat.le_refl _) ?_
                exact z_iret E dX4_snuffs_155 (fun h9 q9 => hP _ _ h9 (by subst hs149 hs138 hk2 hk1; unfold M_snuffs; dsimp only; rw [if_neg c4, if_neg c12, if_neg c30, if_neg c46, if_neg c67, if_pos c89, if_neg c115]) q9)
              · refine z_aload_n E dX4_snuffs_118 rfl 0 rfl ?_
                refine z_iconst (v := 1) E dX4_snuffs_119 (by decide) ?_
                refine z_iconst (v := 2) E dX4_snuffs_120 (by decide) ?_
                refine z_callVi E (rest := []) (k' := 0) (n' := 0) cv_X4_refuses (mm_X4_refuses (σ := σ) 1 2) q1778 rfl mS_o rfl rfl (Nat.le_of_ble_eq_true rfl) (Nat.le_of_ble_eq_true rfl) (Nat.le_of_ble_eq_true rfl) dX4_snuffs_121 (Nat.le_refl _) (Nat.le_refl _) ?_
                generalize hs121 : (M_refuses σ 1 2).2 = s121
                exact z_iret E dX4_snuffs_124 (fun h9 q9 => hP _ _ h9 (by subst hs121 hk2 hk1; unfold M_snuffs; dsimp only; rw [if_neg c4, if_neg c12, if_neg c30, if_neg c46, if_neg c67, if_pos c89, if_pos c115]) q9)
            · refine z_aload_n E dX4_snuffs_92 rfl 0 rfl ?_
              refine z_bipush (v := 9) E dX4_snuffs_93 (by decide) ?_
              refine z_aload_n E dX4_snuffs_95 rfl 0 rfl ?_
              refine m_get E 9 (by decide) rfl q1679 rfl dX4_snuffs_96 ?_
              refine z_iload_n E dX4_snuffs_99 rfl 2 rfl ?_
              refine z_iconst (v := 5) E dX4_snuffs_100 (by decide) ?_
              refine z_callSi E (rest := [.ref (ad 9), .int 9, .ref m]) (k' := 0) (n' := 0) cs_X4_in (mm_X4_in k2 5) q1790 rfl rfl (Nat.le_of_ble_eq_true rfl) (Nat.le_of_ble_eq_true rfl) (Nat.le_of_ble_eq_true rfl) dX4_snuffs_101 (Nat.le_refl _) (Nat.le_refl _) ?_
              refine m_ald E (j := 9) (q := 30 + 8 * k2 + 5) (by decide) (by show _ < 126; omega) (by omega) dX4_snuffs_104 ?_
              refine z_callVi E (rest := []) (k' := 0) (n' := 0) cv_X4_refuses (mm_X4_refuses (σ := σ) 9 (σ.2 9 (30 + 8 * k2 + 5))) q1778 rfl mS_o rfl rfl (Nat.le_of_ble_eq_true rfl) (Nat.le_of_ble_eq_true rfl) (Nat.le_of_ble_eq_true rfl) dX4_snuffs_105 (Nat.le_refl _) (Nat.le_refl _) ?_
              generalize hs105 : (M_refuses σ 9 (σ.2 9 (30 + 8 * k2 + 5))).2 = s105
              exact z_iret E dX4_snuffs_108 (fun h9 q9 => hP _ _ h9 (by subst hs105 hk2 hk1; unfold M_snuffs; dsimp only; rw [if_neg c4, if_neg c12, if_neg c30, if_neg c46, if_neg c67, if_neg c89]) q9)
          · refine z_aload_n E dX4_snuffs_70 rfl 0 rfl ?_
            refine z_bipush (v := 8) E dX4_snuffs_71 (by decide) ?_
            refine z_iload_n E dX4_snuffs_73 rfl 1 rfl ?_
            refine z_callVi E (rest := []) (k' := 0) (n' := 0) cv_X4_refuses (mm_X4_refuses (σ := σ) 8 (nI k1)) q1778 rfl mS_o rfl rfl (Nat.le_of_ble_eq_true rfl) (Nat.le_of_ble_eq_true rfl) (Nat.le_of_ble_eq_true rfl) dX4_snuffs_74 (Nat.le_refl _) (Nat.le_refl _) ?_
            generalize hs74 : (M_refuses σ 8 (nI k1)).2 = s74
            exact z_iret E dX4_snuffs_77 (fun h9 q9 => hP _ _ h9 (by subst hs74 hk2 hk1; unfold M_snuffs; dsimp only; rw [if_neg c4, if_neg c12, if_neg c30, if_neg c46, if_pos c67]) q9)
        · refine z_aload_n E dX4_snuffs_49 rfl 0 rfl ?_
          refine z_iconst (v := 2) E dX4_snuffs_50 (by decide) ?_
          refine z_iload_n E dX4_snuffs_51 rfl 1 rfl ?_
          refine z_callVi E (rest := []) (k' := 0) (n' := 0) cv_X4_refuses (mm_X4_refuses (σ := σ) 2 (nI k1)) q1778 rfl mS_o rfl rfl (Nat.le_of_ble_eq_true rfl) (Nat.le_of_ble_eq_true rfl) (Nat.le_of_ble_eq_true rfl) dX4_snuffs_52 (Nat.le_refl _) (Nat.le_refl _) ?_
          generalize hs52 : (M_refuses σ 2 (nI k1)).2 = s52
          exact z_iret E dX4_snuffs_55 (fun h9 q9 => hP _ _ h9 (by subst hs52 hk2 hk1; unfold M_snuffs; dsimp only; rw [if_neg c4, if_neg c12, if_neg c30, if_pos c46]) q9)
      · refine z_aload_n E dX4_snuffs_33 rfl 0 rfl ?_
        refine z_sipush (v := -1012) E dX4_snuffs_34 (by decide) ?_
        refine z_callVi E (rest := []) (k' := 0) (n' := 0) cv_X4_fail (mm_X4_fail (σ := σ) (-1012)) q1767 rfl mS_o rfl rfl (Nat.le_of_ble_eq_true rfl) (Nat.le_of_ble_eq_true rfl) (Nat.le_of_ble_eq_true rfl) dX4_snuffs_37 (Nat.le_refl _) (Nat.le_refl _) ?_
        generalize hs37 : (M_fail σ (-1012)).2 = s37
        exact z_iret E dX4_snuffs_40 (fun h9 q9 => hP _ _ h9 (by subst hs37 hk2 hk1; unfold M_snuffs; dsimp only; rw [if_neg c4, if_neg c12, if_pos c30]) q9)
    · refine z_aload_n E dX4_snuffs_15 rfl 0 rfl ?_
      refine z_sipush (v := -1011) E dX4_snuffs_16 (by decide) ?_
      refine z_callVi E (rest := []) (k' := 0) (n' := 0) cv_X4_fail (mm_X4_fail (σ := σ) (-1011)) q1767 rfl mS_o rfl rfl (Nat.le_of_ble_eq_true rfl) (Nat.le_of_ble_eq_true rfl) (Nat.le_of_ble_eq_true rfl) dX4_snuffs_19 (Nat.le_refl _) (Nat.le_refl _) ?_
      generalize hs19 : (M_fail σ (-1011)).2 = s19
      exact z_iret E dX4_snuffs_22 (fun h9 q9 => hP _ _ h9 (by subst hs19; unfold M_snuffs; dsimp only; rw [if_neg c4, if_pos c12]) q9)
theorem mm_X4_snuffs {l : Launch} {w : zWd} {m : Nat} {ad : Nat → Nat} {h0 : zH} {σ : mSt} (n : Nat) (h s a : Int32) (I : MI (σ.2 9) n) : ZM l w yX4_snuffs (ws_ yX4_snuffs cX4_snuffs 4 (some .int)) 2 44 0 0 [.ref m, .int h, .int s, .int a] (mS m ad h0 σ) (zri (M_snuffs σ n h s a).1 (mS m ad h0 (M_snuffs σ n h s a).2)) zno :=
  zm_of (by decide) rfl (Nat.le_of_ble_eq_true rfl) (fun X _ E => mb_X4_snuffs n h s a I E (fun r s h e q => by rw [← e]; exact ⟨rfl, q⟩))
theorem cv_X4_stubOf : zCV yX4_stubOf RX4 cX4_stubOf 4 (some .int) 2 := ⟨⟨q1842, q1843, q95, q1844⟩, by decide +kernel⟩
def M_stubOf (σ : mSt) (n : Nat) (s c : Int32) : Int32 :=
  if (M_isStub σ s) = 0 then
    -1011
  else
    let k1 := s.toNatClampNeg
    if (M_isIn c 0 7) = 0 then
      -1012
    else
      let k2 := c.toNatClampNeg
      if k2 = 3 then
        if (σ.2 9 (30 + 8 * k1 + k2)) = 0 then
          -1015
        else
          (σ.2 9 (30 + 8 * k1 + k2)) - 1
      else
        if k2 = 6 then
          if (σ.2 9 (30 + 8 * k1 + k2)) = 0 then
            -1015
          else
            (σ.2 9 (30 + 8 * k1 + k2)) - 1
        else
          σ.2 9 (30 + 8 * k1 + k2)
set_option maxHeartbeats 4000000 in
theorem mb_X4_stubOf {X : zX} {w : zWd} {m : Nat} {ad : Nat → Nat} {h0 : zH} {σ : mSt} {P : Option Value → zH → Prop} {PX : Nat → zH → Prop} (n : Nat) (s c : Int32) (I : MI (σ.2 9) n) (E : zOK X w RX4 cX4_stubOf 4 2 43 [] (some .int) "stubOf") (hP : ∀ r9 h9, r9 = M_stubOf σ n s c → (mS m ad h0 σ) h9 → P (some (.int r9)) h9) : Z X w 4 (zQ X w P PX) (mS m ad h0 σ) 0 0 [(0, .ref m), (1, .int s), (2, .int c)] 0 [] := by
  have hn12 := I.2.1
  refine z_aload_n E dX4_stubOf_0 rfl 0 rfl ?_
  refine z_iload_n E dX4_stubOf_1 rfl 1 rfl ?_
  refine z_callVi E (rest := []) (k' := 0) (n' := 0) cv_X4_isStub (mm_X4_isStub (σ := σ) s) q1805 rfl mS_o rfl rfl (Nat.le_of_ble_eq_true rfl) (Nat.le_of_ble_eq_true rfl) (Nat.le_of_ble_eq_true rfl) dX4_stubOf_2 (Nat.le_refl _) (Nat.le_refl _) ?_
  refine z_if_ne (tgt := 12) E dX4_stubOf_5 (by decide) (fun c5 => ?_) (fun c5 => ?_)
  · have hk1p := zStub_e I c5
    generalize hk1 : s.toNatClampNeg = k1 at hk1p ⊢
    have hk1l := hk1p.2
    rw [hk1p.1]
    refine z_iload_n E dX4_stubOf_12 rfl 2 rfl ?_
    refine z_iconst (v := 0) E dX4_stubOf_13 (by decide) ?_
    refine z_bipush (v := 7) E dX4_stubOf_14 (by decide) ?_
    refine z_callSi E (rest := []) (k' := 0) (n' := 0) cs_X4_isIn (mm_X4_isIn c 0 7) q1764 rfl rfl (Nat.le_of_ble_eq_true rfl) (Nat.le_of_ble_eq_true rfl) (Nat.le_of_ble_eq_true rfl) dX4_stubOf_16 (Nat.le_refl _) (Nat.le_refl _) ?_
    refine z_if_ne (tgt := 26) E dX4_stubOf_19 (by decide) (fun c19 => ?_) (fun c19 => ?_)
    · have hk2p := zIn_e (b := 7) (by decide) c19
      generalize hk2 : c.toNatClampNeg = k2 at hk2p ⊢
      have hk2l := hk2p.2
      rw [hk2p.1]
      refine z_aload_n E dX4_stubOf_26 rfl 0 rfl ?_
      refine m_get E 9 (by decide) rfl q1679 rfl dX4_stubOf_27 ?_
      refine z_iload_n E dX4_stubOf_30 rfl 1 rfl ?_
      refine z_iload_n E dX4_stubOf_31 rfl 2 rfl ?_
      refine z_callSi E (rest := [.ref (ad 9)]) (k' := 0) (n' := 0) cs_X4_in (mm_X4_in k1 k2) q1790 rfl rfl (Nat.le_of_ble_eq_true rfl) (Nat.le_of_ble_eq_true rfl) (Nat.le_of_ble_eq_true rfl) dX4_stubOf_32 (Nat.le_refl _) (Nat.le_refl _) ?_
      refine m_ald E (j := 9) (q := 30 + 8 * k1 + k2) (by decide) (by show _ < 126; omega) (by omega) dX4_stubOf_35 ?_
      refine z_istore_n (lv' := [(3, .int (σ.2 9 (30 + 8 * k1 + k2))), (0, .ref m), (1, .int (nI k1)), (2, .int (nI k2))]) E dX4_stubOf_36 rfl (by decide) rfl ?_
      refine z_iload_n E dX4_stubOf_37 rfl 3 rfl ?_
      refine z_iconst (v := 3) E dX4_stubOf_38 (by decide) ?_
      refine z_icmp_eqN (a := k2) (b := 3) (tgt := 52) E (by omega) (by omega) dX4_stubOf_39 (by decide) (fun c39 => ?_) (fun c39 => ?_)
      · refine z_iload_n E dX4_stubOf_52 rfl 0 rfl ?_
        refine z_if_ne (tgt := 62) E dX4_stubOf_53 (by decide) (fun c53 => ?_) (fun c53 => ?_)
        · refine z_iload_n E dX4_stubOf_62 rfl 0 rfl ?_
          refine z_iconst (v := 1) E dX4_stubOf_63 (by decide) ?_
          refine z_isub E dX4_stubOf_64 ?_
          exact z_iret E dX4_stubOf_65 (fun h9 q9 => hP _ h9 (by subst hk2 hk1; unfold M_stubOf; dsimp only; rw [if_neg c5, if_neg c19, if_pos c39, if_neg c53]) q9)
        · refine z_sipush (v := -1015) E dX4_stubOf_56 (by decide) ?_
          refine z_goto (tgt := 65) E dX4_stubOf_59 (by decide) ?_
          exact z_iret E dX4_stubOf_65 (fun h9 q9 => hP _ h9 (by subst hk2 hk1; unfold M_stubOf; dsimp only; rw [if_neg c5, if_neg c19, if_pos c39, if_pos c53]) q9)
      · refine z_iload_n E dX4_stubOf_42 rfl 3 rfl ?_
        refine z_bipush (v := 6) E dX4_stubOf_43 (by decide) ?_
        refine z_icmp_eqN (a := k2) (b := 6) (tgt := 52) E (by omega) (by omega) dX4_stubOf_45 (by decide) (fun c45 => ?_) (fun c45 => ?_)
        · refine z_iload_n E dX4_stubOf_52 rfl 0 rfl ?_
          refine z_if_ne (tgt := 62) E dX4_stubOf_53 (by decide) (fun c53 => ?_) (fun c53 => ?_)
          · refine z_iload_n E dX4_stubOf_62 rfl 0 rfl ?_
            refine z_iconst (v := 1) E dX4_stubOf_63 (by decide) ?_
            refine z_isub E dX4_stubOf_64 ?_
            exact z_iret E dX4_stubOf_65 (fun h9 q9 => hP _ h9 (by subst hk2 hk1; unfold M_stubOf; dsimp only; rw [if_neg c5, if_neg c19, if_neg c39, if_pos c45, if_neg c53]) q9)
          · refine z_sipush (v := -1015) E dX4_stubOf_56 (by decide) ?_
            refine z_goto (tgt := 65) E dX4_stubOf_59 (by decide) ?_
            exact z_iret E dX4_stubOf_65 (fun h9 q9 => hP _ h9 (by subst hk2 hk1; unfold M_stubOf; dsimp only; rw [if_neg c5, if_neg c19, if_neg c39, if_pos c45, if_pos c53]) q9)
        · refine z_iload_n E dX4_stubOf_48 rfl 0 rfl ?_
          refine z_goto (tgt := 65) E dX4_stubOf_49 (by decide) ?_
          exact z_iret E dX4_stubOf_65 (fun h9 q9 => hP _ h9 (by subst hk2 hk1; unfold M_stubOf; dsimp only; rw [if_neg c5, if_neg c19, if_neg c39, if_neg c45]) q9)
    · refine z_sipush (v := -1012) E dX4_stubOf_22 (by decide) ?_
      exact z_iret E dX4_stubOf_25 (fun h9 q9 => hP _ h9 (by subst hk1; unfold M_stubOf; dsimp only; rw [if_neg c5, if_pos c19]) q9)
  · refine z_sipush (v := -1011) E dX4_stubOf_8 (by decide) ?_
    exact z_iret E dX4_stubOf_11 (fun h9 q9 => hP _ h9 (by unfold M_stubOf; rw [if_pos c5]) q9)
theorem mm_X4_stubOf {l : Launch} {w : zWd} {m : Nat} {ad : Nat → Nat} {h0 : zH} {σ : mSt} (n : Nat) (s c : Int32) (I : MI (σ.2 9) n) : ZM l w yX4_stubOf (ws_ yX4_stubOf cX4_stubOf 4 (some .int)) 2 43 0 0 [.ref m, .int s, .int c] (mS m ad h0 σ) (zri (M_stubOf σ n s c) (mS m ad h0 σ)) zno :=
  zm_of (by decide) rfl (Nat.le_of_ble_eq_true rfl) (fun X _ E => mb_X4_stubOf n s c I E (fun r h e q => by subst e; exact ⟨rfl, q⟩))
theorem cv_X4_pools : zCV yX4_pools RX4 cX4_pools 4 (some .int) 2 := ⟨⟨q1851, qs51, q95, q1852⟩, by decide +kernel⟩
def M_pools (σ : mSt) (n : Nat) (s a : Int32) : Int32 × mSt :=
  if (M_isStub σ s) = 0 then
    let s12 := (M_fail σ (-1011)).2
    ((M_fail σ (-1011)).1, s12)
  else
    let k1 := s.toNatClampNeg
    if (M_isIn a 1 30) = 0 then
      let s30 := (M_fail σ (-1012)).2
      ((M_fail σ (-1012)).1, s30)
    else
      if a ≤ (σ.2 9 (30 + 8 * k1 + 1)) then
        let j72 := (σ.2 9 (30 + 8 * k1 + 0)).toNatClampNeg
        let s80 := setA σ 9 (6 + 4 * j72 + 3) ((σ.2 9 (6 + 4 * j72 + 3)) + a)
        let s94 := setA s80 9 (30 + 8 * k1 + 1) ((s80.2 9 (30 + 8 * k1 + 1)) - a)
        let s105 := if (σ.2 9 (30 + 8 * k1 + 1)) = a then (M_goes s94 k1) else s94
        (M_pooled s105, s105)
      else
        let s54 := (M_refuses σ 10 (σ.2 9 (30 + 8 * k1 + 1))).2
        ((M_refuses σ 10 (σ.2 9 (30 + 8 * k1 + 1))).1, s54)
set_option maxHeartbeats 4000000 in
theorem mb_X4_pools {X : zX} {w : zWd} {m : Nat} {ad : Nat → Nat} {h0 : zH} {σ : mSt} {P : Option Value → zH → Prop} {PX : Nat → zH → Prop} (n : Nat) (s a : Int32) (I : MI (σ.2 9) n) (E : zOK X w RX4 cX4_pools 4 2 43 [] (some .int) "pools") (hP : ∀ r9 s9 h9, (r9, s9) = M_pools σ n s a → mS m ad h0 s9 h9 → P (some (.int r9)) h9) : Z X w 4 (zQ X w P PX) (mS m ad h0 σ) 0 0 [(0, .ref m), (1, .int s), (2, .int a)] 0 [] := by
  have hn12 := I.2.1
  refine z_aload_n E dX4_pools_0 rfl 0 rfl ?_
  refine z_iload_n E dX4_pools_1 rfl 1 rfl ?_
  refine z_callVi E (rest := []) (k' := 0) (n' := 0) cv_X4_isStub (mm_X4_isStub (σ := σ) s) q1805 rfl mS_o rfl rfl (Nat.le_of_ble_eq_true rfl) (Nat.le_of_ble_eq_true rfl) (Nat.le_of_ble_eq_true rfl) dX4_pools_2 (Nat.le_refl _) (Nat.le_refl _) ?_
  refine z_if_ne (tgt := 16) E dX4_pools_5 (by decide) (fun c5 => ?_) (fun c5 => ?_)
  · have hk1p := zStub_e I c5
    generalize hk1 : s.toNatClampNeg = k1 at hk1p ⊢
    have hk1l := hk1p.2
    rw [hk1p.1]
    refine z_iload_n E dX4_pools_16 rfl 2 rfl ?_
    refine z_iconst (v := 1) E dX4_pools_17 (by decide) ?_
    refine z_bipush (v := 30) E dX4_pools_18 (by decide) ?_
    refine z_callSi E (rest := []) (k' := 0) (n' := 0) cs_X4_isIn (mm_X4_isIn a 1 30) q1764 rfl rfl (Nat.le_of_ble_eq_true rfl) (Nat.le_of_ble_eq_true rfl) (Nat.le_of_ble_eq_true rfl) dX4_pools_20 (Nat.le_refl _) (Nat.le_refl _) ?_
    refine z_if_ne (tgt := 34) E dX4_pools_23 (by decide) (fun c23 => ?_) (fun c23 => ?_)
    · refine z_aload_n E dX4_pools_34 rfl 0 rfl ?_
      refine m_get E 9 (by decide) rfl q1679 rfl dX4_pools_35 ?_
      refine z_iload_n E dX4_pools_38 rfl 1 rfl ?_
      refine z_iconst (v := 1) E dX4_pools_39 (by decide) ?_
      refine z_callSi E (rest := [.ref (ad 9)]) (k' := 0) (n' := 0) cs_X4_in (mm_X4_in k1 1) q1790 rfl rfl (Nat.le_of_ble_eq_true rfl) (Nat.le_of_ble_eq_true rfl) (Nat.le_of_ble_eq_true rfl) dX4_pools_40 (Nat.le_refl _) (Nat.le_refl _) ?_
      refine m_ald E (j := 9) (q := 30 + 8 * k1 + 1) (by decide) (by show _ < 126; omega) (by omega) dX4_pools_43 ?_
      refine z_istore_n (lv' := [(3, .int (σ.2 9 (30 + 8 * k1 + 1))), (0, .ref m), (1, .int (nI k1)), (2, .int a)]) E dX4_pools_44 rfl (by decide) rfl ?_
      refine z_iload_n E dX4_pools_45 rfl 0 rfl ?_
      refine z_iload_n E dX4_pools_46 rfl 3 rfl ?_
      refine z_icmp_ge (tgt := 58) E dX4_pools_47 (by decide) (fun c47 => ?_) (fun c47 => ?_)
      · refine z_aload_n E dX4_pools_58 rfl 1 rfl ?_
        refine m_get E 9 (by decide) rfl q1679 rfl dX4_pools_59 ?_
        refine z_aload_n E dX4_pools_62 rfl 1 rfl ?_
        refine m_get E 9 (by decide) rfl q1679 rfl dX4_pools_63 ?_
        refine z_iload_n E dX4_pools_66 rfl 2 rfl ?_
        refine z_iconst (v := 0) E dX4_pools_67 (by decide) ?_
        refine z_callSi E (rest := [.ref (ad 9), .ref (ad 9)]) (k' := 0) (n' := 0) cs_X4_in (mm_X4_in k1 0) q1790 rfl rfl (Nat.le_of_ble_eq_true rfl) (Nat.le_of_ble_eq_true rfl) (Nat.le_of_ble_eq_true rfl) dX4_pools_68 (Nat.le_refl _) (Nat.le_refl _) ?_
        refine m_ald E (j := 9) (q := 30 + 8 * k1 + 0) (by decide) (by show _ < 126; omega) (by omega) dX4_pools_71 ?_
        have hj72p : (σ.2 9 (30 + 8 * k1 + 0)) = nI (σ.2 9 (30 + 8 * k1 + 0)).toNatClampNeg ∧ (σ.2 9 (30 + 8 * k1 + 0)).toNatClampNeg < 6 := MI_of I hk1l
        generalize hj72 : (σ.2 9 (30 + 8 * k1 + 0)).toNatClampNeg = j72 at hj72p
        have hj72l := hj72p.2
        refine z_top hj72p.1 ?_
        refine z_iconst (v := 3) E dX4_pools_72 (by decide) ?_
        refine z_callSi E (rest := [.ref (ad 9)]) (k' := 0) (n' := 0) cs_X4_at (mm_X4_at j72 3) q1667 rfl rfl (Nat.le_of_ble_eq_true rfl) (Nat.le_of_ble_eq_true rfl) (Nat.le_of_ble_eq_true rfl) dX4_pools_73 (Nat.le_refl _) (Nat.le_refl _) ?_
        refine z_dup2_11 E dX4_pools_76 rfl rfl ?_
        refine m_ald E (j := 9) (q := 6 + 4 * j72 + 3) (by decide) (by show _ < 126; omega) (by omega) dX4_pools_77 ?_
        refine z_iload_n E dX4_pools_78 rfl 3 rfl ?_
        refine z_iadd E dX4_pools_79 ?_
        refine m_ast E (j := 9) (q := 6 + 4 * j72 + 3) (by decide) (by show _ < 126; omega) (by omega) dX4_pools_80 ?_
        generalize hs80 : setA σ 9 (6 + 4 * j72 + 3) ((σ.2 9 (6 + 4 * j72 + 3)) + a) = s80
        refine z_aload_n E dX4_pools_81 rfl 1 rfl ?_
        refine m_get E 9 (by decide) rfl q1679 rfl dX4_pools_82 ?_
        refine z_iload_n E dX4_pools_85 rfl 2 rfl ?_
        refine z_iconst (v := 1) E dX4_pools_86 (by decide) ?_
        refine z_callSi E (rest := [.ref (ad 9)]) (k' := 0) (n' := 0) cs_X4_in (mm_X4_in k1 1) q1790 rfl rfl (Nat.le_of_ble_eq_true rfl) (Nat.le_of_ble_eq_true rfl) (Nat.le_of_ble_eq_true rfl) dX4_pools_87 (Nat.le_refl _) (Nat.le_refl _) ?_
        refine z_dup2_11 E dX4_pools_90 rfl rfl ?_
        refine m_ald E (j := 9) (q := 30 + 8 * k1 + 1) (by decide) (by show _ < 126; omega) (by omega) dX4_pools_91 ?_
        refine z_iload_n E dX4_pools_92 rfl 3 rfl ?_
        refine z_isub E dX4_pools_93 ?_
        refine m_ast E (j := 9) (q := 30 + 8 * k1 + 1) (by decide) (by show _ < 126; omega) (by omega) dX4_pools_94 ?_
        generalize hs94 : setA s80 9 (30 + 8 * k1 + 1) ((s80.2 9 (30 + 8 * k1 + 1)) - a) = s94
        refine z_iload_n E dX4_pools_95 rfl 0 rfl ?_
        refine z_iload_n E dX4_pools_96 rfl 3 rfl ?_
        have J97 : ∀ (j97_0 : mSt), j97_0 = (if (σ.2 9 (30 + 8 * k1 + 1)) = a then (M_goes s94 k1) else s94) → Z X w 4 (zQ X w P PX) (mS m ad h0 j97_0) 0 0 [(0, .ref m), (1, .int (nI k1)), (2, .int a), (3, .int (σ.2 9 (30 + 8 * k1 + 1)))] 105 [] := by
          intro j97_0 ej97_0
          subst ej97_0
          generalize hs105 : (if (σ.2 9 (30 + 8 * k1 + 1)) = a then (M_goes s94 k1) else s94) = s105
          refine z_aload_n E dX4_pools_105 rfl 0 rfl ?_
          refine z_callVi E (rest := []) (k' := 0) (n' := 0) cv_X4_pooled (mm_X4_pooled (σ := s105) ) q1853 rfl mS_o rfl rfl (Nat.le_of_ble_eq_true rfl) (Nat.le_of_ble_eq_true rfl) (Nat.le_of_ble_eq_true rfl) dX4_pools_106 (Nat.le_refl _) (Nat.le_refl _) ?_
          exact z_iret E dX4_pools_109 (fun h9 q9 => hP _ _ h9 (by subst hs105 hs94 hs80 hj72 hk1; unfold M_pools; dsimp only; rw [if_neg c5, if_neg c23, if_pos c47]) q9)
        refine z_icmp_ne (tgt := 105) E dX4_pools_97 (by decide) (fun c97 => ?_) (fun c97 => ?_)
        · refine z_sub (lv' := [(0, .ref m), (1, .int (nI k1)), (2, .int a), (3, .int (σ.2 9 (30 + 8 * k1 + 1)))]) [1, 2, 3, 0] rfl ?_
          exact J97 _ ((if_neg c97).symm)
        · refine z_aload_n E dX4_pools_100 rfl 1 rfl ?_
          refine z_iload_n E dX4_pools_101 rfl 2 rfl ?_
          refine z_callVv E (rest := []) (k' := 0) (n' := 0) cv_X4_goes (mm_X4_goes (σ := s94) k1 (by omega)) q1813 rfl mS_o rfl rfl (Nat.le_of_ble_eq_true rfl) (Nat.le_of_ble_eq_true rfl) (Nat.le_of_ble_eq_true rfl) dX4_pools_102 (Nat.le_refl _) (Nat.le_refl _) ?_
          generalize hs102 : M_goes s94 k1 = s102
          subst hs102
          refine z_sub (lv' := [(0, .ref m), (1, .int (nI k1)), (2, .int a), (3, .int (σ.2 9 (30 + 8 * k1 + 1)))]) [1, 2, 3, 0] rfl ?_
          exact J97 _ ((if_pos c97).symm)
      · refine z_aload_n E dX4_pools_50 rfl 1 rfl ?_
        refine z_bipush (v := 10) E dX4_pools_51 (by decide) ?_
        refine z_iload_n E dX4_pools_53 rfl 0 rfl ?_
        refine z_callVi E (rest := []) (k' := 0) (n' := 0) cv_X4_refuses (mm_X4_refuses (σ := σ) 10 (σ.2 9 (30 + 8 * k1 + 1))) q1778 rfl mS_o rfl rfl (Nat.le_of_ble_eq_true rfl) (Nat.le_of_ble_eq_true rfl) (Nat.le_of_ble_eq_true rfl) dX4_pools_54 (Nat.le_refl _) (Nat.le_refl _) ?_
        generalize hs54 : (M_refuses σ 10 (σ.2 9 (30 + 8 * k1 + 1))).2 = s54
        exact z_iret E dX4_pools_57 (fun h9 q9 => hP _ _ h9 (by subst hs54 hk1; unfold M_pools; dsimp only; rw [if_neg c5, if_neg c23, if_neg c47]) q9)
    · refine z_aload_n E dX4_pools_26 rfl 0 rfl ?_
      refine z_sipush (v := -1012) E dX4_pools_27 (by decide) ?_
      refine z_callVi E (rest := []) (k' := 0) (n' := 0) cv_X4_fail (mm_X4_fail (σ := σ) (-1012)) q1767 rfl mS_o rfl rfl (Nat.le_of_ble_eq_true rfl) (Nat.le_of_ble_eq_true rfl) (Nat.le_of_ble_eq_true rfl) dX4_pools_30 (Nat.le_refl _) (Nat.le_refl _) ?_
      generalize hs30 : (M_fail σ (-1012)).2 = s30
      exact z_iret E dX4_pools_33 (fun h9 q9 => hP _ _ h9 (by subst hs30 hk1; unfold M_pools; dsimp only; rw [if_neg c5, if_pos c23]) q9)
  · refine z_aload_n E dX4_pools_8 rfl 0 rfl ?_
    refine z_sipush (v := -1011) E dX4_pools_9 (by decide) ?_
    refine z_callVi E (rest := []) (k' := 0) (n' := 0) cv_X4_fail (mm_X4_fail (σ := σ) (-1011)) q1767 rfl mS_o rfl rfl (Nat.le_of_ble_eq_true rfl) (Nat.le_of_ble_eq_true rfl) (Nat.le_of_ble_eq_true rfl) dX4_pools_12 (Nat.le_refl _) (Nat.le_refl _) ?_
    generalize hs12 : (M_fail σ (-1011)).2 = s12
    exact z_iret E dX4_pools_15 (fun h9 q9 => hP _ _ h9 (by subst hs12; unfold M_pools; dsimp only; rw [if_pos c5]) q9)
theorem mm_X4_pools {l : Launch} {w : zWd} {m : Nat} {ad : Nat → Nat} {h0 : zH} {σ : mSt} (n : Nat) (s a : Int32) (I : MI (σ.2 9) n) : ZM l w yX4_pools (ws_ yX4_pools cX4_pools 4 (some .int)) 2 43 0 0 [.ref m, .int s, .int a] (mS m ad h0 σ) (zri (M_pools σ n s a).1 (mS m ad h0 (M_pools σ n s a).2)) zno :=
  zm_of (by decide) rfl (Nat.le_of_ble_eq_true rfl) (fun X _ E => mb_X4_pools n s a I E (fun r s h e q => by rw [← e]; exact ⟨rfl, q⟩))
theorem cv_X4_tellsHeir : zCV yX4_tellsHeir RX4 cX4_tellsHeir 4 (some .int) 2 := ⟨⟨q1900, qs58, q95, q1901⟩, by decide +kernel⟩
def M_tellsHeir (σ : mSt) (h c : Int32) : Int32 × mSt :=
  if (M_isHouse h) = 0 then
    let s18 := (M_fail σ (-1011)).2
    ((M_fail σ (-1011)).1, s18)
  else
    if (M_isHouse c) = 0 then
      let s18 := (M_fail σ (-1011)).2
      ((M_fail σ (-1011)).1, s18)
    else
      let k1 := h.toNatClampNeg
      if (σ.2 9 (6 + 4 * k1 + 1)) = c then
        let s42 := (M_refuses σ 14 c).2
        ((M_refuses σ 14 c).1, s42)
      else
        let s56 := setA σ 9 (6 + 4 * k1 + 1) c
        (σ.2 9 (6 + 4 * k1 + 1), s56)
set_option maxHeartbeats 4000000 in
theorem mb_X4_tellsHeir {X : zX} {w : zWd} {m : Nat} {ad : Nat → Nat} {h0 : zH} {σ : mSt} {P : Option Value → zH → Prop} {PX : Nat → zH → Prop} (h c : Int32)  (E : zOK X w RX4 cX4_tellsHeir 4 2 43 [] (some .int) "tellsHeir") (hP : ∀ r9 s9 h9, (r9, s9) = M_tellsHeir σ h c → mS m ad h0 s9 h9 → P (some (.int r9)) h9) : Z X w 4 (zQ X w P PX) (mS m ad h0 σ) 0 0 [(0, .ref m), (1, .int h), (2, .int c)] 0 [] := by
  refine z_iload_n E dX4_tellsHeir_0 rfl 1 rfl ?_
  refine z_callSi E (rest := []) (k' := 0) (n' := 0) cs_X4_isHouse (mm_X4_isHouse h) q1761 rfl rfl (Nat.le_of_ble_eq_true rfl) (Nat.le_of_ble_eq_true rfl) (Nat.le_of_ble_eq_true rfl) dX4_tellsHeir_1 (Nat.le_refl _) (Nat.le_refl _) ?_
  refine z_if_eq (tgt := 14) E dX4_tellsHeir_4 (by decide) (fun c4 => ?_) (fun c4 => ?_)
  · refine z_aload_n E dX4_tellsHeir_14 rfl 0 rfl ?_
    refine z_sipush (v := -1011) E dX4_tellsHeir_15 (by decide) ?_
    refine z_callVi E (rest := []) (k' := 0) (n' := 0) cv_X4_fail (mm_X4_fail (σ := σ) (-1011)) q1767 rfl mS_o rfl rfl (Nat.le_of_ble_eq_true rfl) (Nat.le_of_ble_eq_true rfl) (Nat.le_of_ble_eq_true rfl) dX4_tellsHeir_18 (Nat.le_refl _) (Nat.le_refl _) ?_
    generalize hs18 : (M_fail σ (-1011)).2 = s18
    exact z_iret E dX4_tellsHeir_21 (fun h9 q9 => hP _ _ h9 (by subst hs18; unfold M_tellsHeir; dsimp only; rw [if_pos c4]) q9)
  · refine z_iload_n E dX4_tellsHeir_7 rfl 2 rfl ?_
    refine z_callSi E (rest := []) (k' := 0) (n' := 0) cs_X4_isHouse (mm_X4_isHouse c) q1761 rfl rfl (Nat.le_of_ble_eq_true rfl) (Nat.le_of_ble_eq_true rfl) (Nat.le_of_ble_eq_true rfl) dX4_tellsHeir_8 (Nat.le_refl _) (Nat.le_refl _) ?_
    refine z_if_ne (tgt := 22) E dX4_tellsHeir_11 (by decide) (fun c11 => ?_) (fun c11 => ?_)
    · have hk1p := zHouse_e c4
      generalize hk1 : h.toNatClampNeg = k1 at hk1p ⊢
      have hk1l := hk1p.2
      rw [hk1p.1]
      refine z_aload_n E dX4_tellsHeir_22 rfl 0 rfl ?_
      refine m_get E 9 (by decide) rfl q1679 rfl dX4_tellsHeir_23 ?_
      refine z_iload_n E dX4_tellsHeir_26 rfl 1 rfl ?_
      refine z_iconst (v := 1) E dX4_tellsHeir_27 (by decide) ?_
      refine z_callSi E (rest := [.ref (ad 9)]) (k' := 0) (n' := 0) cs_X4_at (mm_X4_at k1 1) q1667 rfl rfl (Nat.le_of_ble_eq_true rfl) (Nat.le_of_ble_eq_true rfl) (Nat.le_of_ble_eq_true rfl) dX4_tellsHeir_28 (Nat.le_refl _) (Nat.le_refl _) ?_
      refine m_ald E (j := 9) (q := 6 + 4 * k1 + 1) (by decide) (by show _ < 126; omega) (by omega) dX4_tellsHeir_31 ?_
      refine z_istore_n (lv' := [(3, .int (σ.2 9 (6 + 4 * k1 + 1))), (0, .ref m), (1, .int (nI k1)), (2, .int c)]) E dX4_tellsHeir_32 rfl (by decide) rfl ?_
      refine z_iload_n E dX4_tellsHeir_33 rfl 0 rfl ?_
      refine z_iload_n E dX4_tellsHeir_34 rfl 3 rfl ?_
      refine z_icmp_ne (tgt := 46) E dX4_tellsHeir_35 (by decide) (fun c35 => ?_) (fun c35 => ?_)
      · refine z_aload_n E dX4_tellsHeir_46 rfl 1 rfl ?_
        refine m_get E 9 (by decide) rfl q1679 rfl dX4_tellsHeir_47 ?_
        refine z_iload_n E dX4_tellsHeir_50 rfl 2 rfl ?_
        refine z_iconst (v := 1) E dX4_tellsHeir_51 (by decide) ?_
        refine z_callSi E (rest := [.ref (ad 9)]) (k' := 0) (n' := 0) cs_X4_at (mm_X4_at k1 1) q1667 rfl rfl (Nat.le_of_ble_eq_true rfl) (Nat.le_of_ble_eq_true rfl) (Nat.le_of_ble_eq_true rfl) dX4_tellsHeir_52 (Nat.le_refl _) (Nat.le_refl _) ?_
        refine z_iload_n E dX4_tellsHeir_55 rfl 3 rfl ?_
        refine m_ast E (j := 9) (q := 6 + 4 * k1 + 1) (by decide) (by show _ < 126; omega) (by omega) dX4_tellsHeir_56 ?_
        generalize hs56 : setA σ 9 (6 + 4 * k1 + 1) c = s56
        refine z_iload_n E dX4_tellsHeir_57 rfl 0 rfl ?_
        exact z_iret E dX4_tellsHeir_58 (fun h9 q9 => hP _ _ h9 (by subst hs56 hk1; unfold M_tellsHeir; dsimp only; rw [if_neg c4, if_neg c11, if_neg c35]) q9)
      · refine z_aload_n E dX4_tellsHeir_38 rfl 1 rfl ?_
        refine z_bipush (v := 14) E dX4_tellsHeir_39 (by decide) ?_
        refine z_iload_n E dX4_tellsHeir_41 rfl 3 rfl ?_
        refine z_callVi E (rest := []) (k' := 0) (n' := 0) cv_X4_refuses (mm_X4_refuses (σ := σ) 14 c) q1778 rfl mS_o rfl rfl (Nat.le_of_ble_eq_true rfl) (Nat.le_of_ble_eq_true rfl) (Nat.le_of_ble_eq_true rfl) dX4_tellsHeir_42 (Nat.le_refl _) (Nat.le_refl _) ?_
        generalize hs42 : (M_refuses σ 14 c).2 = s42
        exact z_iret E dX4_tellsHeir_45 (fun h9 q9 => hP _ _ h9 (by subst hs42 hk1; unfold M_tellsHeir; dsimp only; rw [if_neg c4, if_neg c11, if_pos c35]) q9)
    · refine z_aload_n E dX4_tellsHeir_14 rfl 0 rfl ?_
      refine z_sipush (v := -1011) E dX4_tellsHeir_15 (by decide) ?_
      refine z_callVi E (rest := []) (k' := 0) (n' := 0) cv_X4_fail (mm_X4_fail (σ := σ) (-1011)) q1767 rfl mS_o rfl rfl (Nat.le_of_ble_eq_true rfl) (Nat.le_of_ble_eq_true rfl) (Nat.le_of_ble_eq_true rfl) dX4_tellsHeir_18 (Nat.le_refl _) (Nat.le_refl _) ?_
      generalize hs18 : (M_fail σ (-1011)).2 = s18
      exact z_iret E dX4_tellsHeir_21 (fun h9 q9 => hP _ _ h9 (by subst hs18; unfold M_tellsHeir; dsimp only; rw [if_neg c4, if_pos c11]) q9)
theorem mm_X4_tellsHeir {l : Launch} {w : zWd} {m : Nat} {ad : Nat → Nat} {h0 : zH} {σ : mSt} (h c : Int32)  : ZM l w yX4_tellsHeir (ws_ yX4_tellsHeir cX4_tellsHeir 4 (some .int)) 2 43 0 0 [.ref m, .int h, .int c] (mS m ad h0 σ) (zri (M_tellsHeir σ h c).1 (mS m ad h0 (M_tellsHeir σ h c).2)) zno :=
  zm_of (by decide) rfl (Nat.le_of_ble_eq_true rfl) (fun X _ E => mb_X4_tellsHeir h c  E (fun r s h e q => by rw [← e]; exact ⟨rfl, q⟩))
theorem cv_X4_moulds : zCV yX4_moulds RX4 cX4_moulds 4 (some .int) 3 := ⟨⟨q1892, qs57, q95, q1893⟩, by decide +kernel⟩
def M_moulds (σ : mSt) (n : Nat) (h a b : Int32) : Int32 × mSt :=
  if (M_isHouse h) = 0 then
    let s11 := (M_fail σ (-1011)).2
    ((M_fail σ (-1011)).1, s11)
  else
    if (M_isMade a b) = 0 then
      let s27 := (M_fail σ (-1012)).2
      ((M_fail σ (-1012)).1, s27)
    else
      let k1 := h.toNatClampNeg
      if (M_isOpen σ k1) = 0 then
        let s42 := (M_refuses σ 2 (nI k1)).2
        ((M_refuses σ 2 (nI k1)).1, s42)
      else
        if a ≤ (σ.2 9 (6 + 4 * k1 + 2)) then
          let s90 := setA σ 9 (6 + 4 * k1 + 2) ((σ.2 9 (6 + 4 * k1 + 2)) - a)
          let s95 := (M_makes s90 n (nI k1) a b).2
          ((M_makes s90 n (nI k1) a b).1, s95)
        else
          let s73 := (M_refuses σ 13 (σ.2 9 (6 + 4 * k1 + 2))).2
          ((M_refuses σ 13 (σ.2 9 (6 + 4 * k1 + 2))).1, s73)
set_option maxHeartbeats 4000000 in
theorem mb_X4_moulds {X : zX} {w : zWd} {m : Nat} {ad : Nat → Nat} {h0 : zH} {σ : mSt} {P : Option Value → zH → Prop} {PX : Nat → zH → Prop} (n : Nat) (h a b : Int32) (I : MI (σ.2 9) n) (E : zOK X w RX4 cX4_moulds 4 3 70 [] (some .int) "moulds") (hP : ∀ r9 s9 h9, (r9, s9) = M_moulds σ n h a b → mS m ad h0 s9 h9 → P (some (.int r9)) h9) : Z X w 4 (zQ X w P PX) (mS m ad h0 σ) 0 0 [(0, .ref m), (1, .int h), (2, .int a), (3, .int b)] 0 [] := by
  have hn12 := I.2.1
  refine z_iload_n E dX4_moulds_0 rfl 1 rfl ?_
  refine z_callSi E (rest := []) (k' := 0) (n' := 0) cs_X4_isHouse (mm_X4_isHouse h) q1761 rfl rfl (Nat.le_of_ble_eq_true rfl) (Nat.le_of_ble_eq_true rfl) (Nat.le_of_ble_eq_true rfl) dX4_moulds_1 (Nat.le_refl _) (Nat.le_refl _) ?_
  refine z_if_ne (tgt := 15) E dX4_moulds_4 (by decide) (fun c4 => ?_) (fun c4 => ?_)
  · refine z_iload_n E dX4_moulds_15 rfl 2 rfl ?_
    refine z_iload_n E dX4_moulds_16 rfl 3 rfl ?_
    refine z_callSi E (rest := []) (k' := 0) (n' := 0) cs_X4_isMade (mm_X4_isMade a b) q1771 rfl rfl (Nat.le_of_ble_eq_true rfl) (Nat.le_of_ble_eq_true rfl) (Nat.le_of_ble_eq_true rfl) dX4_moulds_17 (Nat.le_refl _) (Nat.le_refl _) ?_
    refine z_if_ne (tgt := 31) E dX4_moulds_20 (by decide) (fun c20 => ?_) (fun c20 => ?_)
    · have hk1p := zHouse_e c4
      generalize hk1 : h.toNatClampNeg = k1 at hk1p ⊢
      have hk1l := hk1p.2
      rw [hk1p.1]
      refine z_aload_n E dX4_moulds_31 rfl 0 rfl ?_
      refine z_iload_n E dX4_moulds_32 rfl 1 rfl ?_
      refine z_callVi E (rest := []) (k' := 0) (n' := 0) cv_X4_isOpen (mm_X4_isOpen (σ := σ) k1 (by omega)) q1774 rfl mS_o rfl rfl (Nat.le_of_ble_eq_true rfl) (Nat.le_of_ble_eq_true rfl) (Nat.le_of_ble_eq_true rfl) dX4_moulds_33 (Nat.le_refl _) (Nat.le_refl _) ?_
      refine z_if_ne (tgt := 46) E dX4_moulds_36 (by decide) (fun c36 => ?_) (fun c36 => ?_)
      · refine z_aload_n E dX4_moulds_46 rfl 0 rfl ?_
        refine m_get E 9 (by decide) rfl q1679 rfl dX4_moulds_47 ?_
        refine z_iload_n E dX4_moulds_50 rfl 1 rfl ?_
        refine z_iconst (v := 2) E dX4_moulds_51 (by decide) ?_
        refine z_callSi E (rest := [.ref (ad 9)]) (k' := 0) (n' := 0) cs_X4_at (mm_X4_at k1 2) q1667 rfl rfl (Nat.le_of_ble_eq_true rfl) (Nat.le_of_ble_eq_true rfl) (Nat.le_of_ble_eq_true rfl) dX4_moulds_52 (Nat.le_refl _) (Nat.le_refl _) ?_
        refine m_ald E (j := 9) (q := 6 + 4 * k1 + 2) (by decide) (by show _ < 126; omega) (by omega) dX4_moulds_55 ?_
        refine z_iload_n E dX4_moulds_56 rfl 2 rfl ?_
        refine z_icmp_ge (tgt := 77) E dX4_moulds_57 (by decide) (fun c57 => ?_) (fun c57 => ?_)
        · refine z_aload_n E dX4_moulds_77 rfl 0 rfl ?_
          refine m_get E 9 (by decide) rfl q1679 rfl dX4_moulds_78 ?_
          refine z_iload_n E dX4_moulds_81 rfl 1 rfl ?_
          refine z_iconst (v := 2) E dX4_moulds_82 (by decide) ?_
          refine z_callSi E (rest := [.ref (ad 9)]) (k' := 0) (n' := 0) cs_X4_at (mm_X4_at k1 2) q1667 rfl rfl (Nat.le_of_ble_eq_true rfl) (Nat.le_of_ble_eq_true rfl) (Nat.le_of_ble_eq_true rfl) dX4_moulds_83 (Nat.le_refl _) (Nat.le_refl _) ?_
          refine z_dup2_11 E dX4_moulds_86 rfl rfl ?_
          refine m_ald E (j := 9) (q := 6 + 4 * k1 + 2) (by decide) (by show _ < 126; omega) (by omega) dX4_moulds_87 ?_
          refine z_iload_n E dX4_moulds_88 rfl 2 rfl ?_
          refine z_isub E dX4_moulds_89 ?_
          refine m_ast E (j := 9) (q := 6 + 4 * k1 + 2) (by decide) (by show _ < 126; omega) (by omega) dX4_moulds_90 ?_
          generalize hs90 : setA σ 9 (6 + 4 * k1 + 2) ((σ.2 9 (6 + 4 * k1 + 2)) - a) = s90
          refine z_aload_n E dX4_moulds_91 rfl 0 rfl ?_
          refine z_iload_n E dX4_moulds_92 rfl 1 rfl ?_
          refine z_iload_n E dX4_moulds_93 rfl 2 rfl ?_
          refine z_iload_n E dX4_moulds_94 rfl 3 rfl ?_
          refine z_callVi E (rest := []) (k' := 0) (n' := 0) cv_X4_makes (mm_X4_makes (σ := s90) n (nI k1) a b ((by rw [← hs90]; exact (MI_k I (by omega) (fun _ _ => by omega) (fun _ _ => by omega) (fun _ _ => by omega))))) q1782 rfl mS_o rfl rfl (Nat.le_of_ble_eq_true rfl) (Nat.le_of_ble_eq_true rfl) (Nat.le_of_ble_eq_true rfl) dX4_moulds_95 (Nat.le_refl _) (Nat.le_refl _) ?_
          generalize hs95 : (M_makes s90 n (nI k1) a b).2 = s95
          exact z_iret E dX4_moulds_98 (fun h9 q9 => hP _ _ h9 (by subst hs95 hs90 hk1; unfold M_moulds; dsimp only; rw [if_neg c4, if_neg c20, if_neg c36, if_pos c57]) q9)
        · refine z_aload_n E dX4_moulds_60 rfl 0 rfl ?_
          refine z_bipush (v := 13) E dX4_moulds_61 (by decide) ?_
          refine z_aload_n E dX4_moulds_63 rfl 0 rfl ?_
          refine m_get E 9 (by decide) rfl q1679 rfl dX4_moulds_64 ?_
          refine z_iload_n E dX4_moulds_67 rfl 1 rfl ?_
          refine z_iconst (v := 2) E dX4_moulds_68 (by decide) ?_
          refine z_callSi E (rest := [.ref (ad 9), .int 13, .ref m]) (k' := 0) (n' := 0) cs_X4_at (mm_X4_at k1 2) q1667 rfl rfl (Nat.le_of_ble_eq_true rfl) (Nat.le_of_ble_eq_true rfl) (Nat.le_of_ble_eq_true rfl) dX4_moulds_69 (Nat.le_refl _) (Nat.le_refl _) ?_
          refine m_ald E (j := 9) (q := 6 + 4 * k1 + 2) (by decide) (by show _ < 126; omega) (by omega) dX4_moulds_72 ?_
          refine z_callVi E (rest := []) (k' := 0) (n' := 0) cv_X4_refuses (mm_X4_refuses (σ := σ) 13 (σ.2 9 (6 + 4 * k1 + 2))) q1778 rfl mS_o rfl rfl (Nat.le_of_ble_eq_true rfl) (Nat.le_of_ble_eq_true rfl) (Nat.le_of_ble_eq_true rfl) dX4_moulds_73 (Nat.le_refl _) (Nat.le_refl _) ?_
          generalize hs73 : (M_refuses σ 13 (σ.2 9 (6 + 4 * k1 + 2))).2 = s73
          exact z_iret E dX4_moulds_76 (fun h9 q9 => hP _ _ h9 (by subst hs73 hk1; unfold M_moulds; dsimp only; rw [if_neg c4, if_neg c20, if_neg c36, if_neg c57]) q9)
      · refine z_aload_n E dX4_moulds_39 rfl 0 rfl ?_
        refine z_iconst (v := 2) E dX4_moulds_40 (by decide) ?_
        refine z_iload_n E dX4_moulds_41 rfl 1 rfl ?_
        refine z_callVi E (rest := []) (k' := 0) (n' := 0) cv_X4_refuses (mm_X4_refuses (σ := σ) 2 (nI k1)) q1778 rfl mS_o rfl rfl (Nat.le_of_ble_eq_true rfl) (Nat.le_of_ble_eq_true rfl) (Nat.le_of_ble_eq_true rfl) dX4_moulds_42 (Nat.le_refl _) (Nat.le_refl _) ?_
        generalize hs42 : (M_refuses σ 2 (nI k1)).2 = s42
        exact z_iret E dX4_moulds_45 (fun h9 q9 => hP _ _ h9 (by subst hs42 hk1; unfold M_moulds; dsimp only; rw [if_neg c4, if_neg c20, if_pos c36]) q9)
    · refine z_aload_n E dX4_moulds_23 rfl 0 rfl ?_
      refine z_sipush (v := -1012) E dX4_moulds_24 (by decide) ?_
      refine z_callVi E (rest := []) (k' := 0) (n' := 0) cv_X4_fail (mm_X4_fail (σ := σ) (-1012)) q1767 rfl mS_o rfl rfl (Nat.le_of_ble_eq_true rfl) (Nat.le_of_ble_eq_true rfl) (Nat.le_of_ble_eq_true rfl) dX4_moulds_27 (Nat.le_refl _) (Nat.le_refl _) ?_
      generalize hs27 : (M_fail σ (-1012)).2 = s27
      exact z_iret E dX4_moulds_30 (fun h9 q9 => hP _ _ h9 (by subst hs27; unfold M_moulds; dsimp only; rw [if_neg c4, if_pos c20]) q9)
  · refine z_aload_n E dX4_moulds_7 rfl 0 rfl ?_
    refine z_sipush (v := -1011) E dX4_moulds_8 (by decide) ?_
    refine z_callVi E (rest := []) (k' := 0) (n' := 0) cv_X4_fail (mm_X4_fail (σ := σ) (-1011)) q1767 rfl mS_o rfl rfl (Nat.le_of_ble_eq_true rfl) (Nat.le_of_ble_eq_true rfl) (Nat.le_of_ble_eq_true rfl) dX4_moulds_11 (Nat.le_refl _) (Nat.le_refl _) ?_
    generalize hs11 : (M_fail σ (-1011)).2 = s11
    exact z_iret E dX4_moulds_14 (fun h9 q9 => hP _ _ h9 (by subst hs11; unfold M_moulds; dsimp only; rw [if_pos c4]) q9)
theorem mm_X4_moulds {l : Launch} {w : zWd} {m : Nat} {ad : Nat → Nat} {h0 : zH} {σ : mSt} (n : Nat) (h a b : Int32) (I : MI (σ.2 9) n) : ZM l w yX4_moulds (ws_ yX4_moulds cX4_moulds 4 (some .int)) 3 70 0 0 [.ref m, .int h, .int a, .int b] (mS m ad h0 σ) (zri (M_moulds σ n h a b).1 (mS m ad h0 (M_moulds σ n h a b).2)) zno :=
  zm_of (by decide) rfl (Nat.le_of_ble_eq_true rfl) (fun X _ E => mb_X4_moulds n h a b I E (fun r s h e q => by rw [← e]; exact ⟨rfl, q⟩))
