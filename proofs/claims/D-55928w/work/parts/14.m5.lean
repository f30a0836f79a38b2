set_option maxRecDepth 100000
def B_shares  (i : Nat) (s : Int32 × mSt) : Int32 × mSt :=
  let s87 := setA s.2 9 (6 + 4 * i + 2) ((s.2.2 9 (6 + 4 * i + 2)) + (s.2.2 14 i))
  let s98 := setA s87 9 (6 + 4 * i + 3) 0
  (s.1 + (if (s.2.2 14 i) ≤ 0 then ((0 : Int32)) else ((1 : Int32))), s98)
set_option maxHeartbeats 4000000 in
theorem ml_shares {X : zX} {w : zWd} {m : Nat} {ad : Nat → Nat} {h0 : zH} {P : Option Value → zH → Prop} {PX : Nat → zH → Prop}   (s0 : Int32 × mSt)  (E : zOK X w RX4 cX4_shares 3 5 112 [] (some .int) "shares") (kx : Z X w 3 (zQ X w P PX) (mS m ad h0 ((iterN (B_shares) s0 6).2)) 0 0 [(0, .ref m), (1, .int ((iterN (B_shares) s0 6).1)), (2, .int (nI 6))] 105 []) : ∀ d i, i + d = 6 → Z X w 3 (zQ X w P PX) (mS m ad h0 ((iterN (B_shares) s0 i).2)) 0 0 [(0, .ref m), (1, .int ((iterN (B_shares) s0 i).1)), (2, .int (nI i))] 46 [] := by
  intro d
  induction d with
  | zero =>
    intro i hi
    have hi : i = 6 := by omega
    rw [hi]
    refine z_iload_n E dX4_shares_46 rfl 2 rfl ?_
    refine z_bipush (v := 6) E dX4_shares_47 (by decide) ?_
    refine z_icmp_geN (a := 6) (b := 6) (tgt := 105) E (by omega) (by omega) dX4_shares_49 (by decide) (fun c49 => ?_) (fun c49 => absurd c49 (by omega))
    exact kx
  | succ d ih =>
    intro i hi
    have ih1 := ih (i + 1) (by omega)
    rw [iterN_s] at ih1
    generalize hs : iterN (B_shares) s0 i = s at ih1  ⊢
    refine z_iload_n E dX4_shares_46 rfl 2 rfl ?_
    refine z_bipush (v := 6) E dX4_shares_47 (by decide) ?_
    refine z_icmp_geN (a := i) (b := 6) (tgt := 105) E (by omega) (by omega) dX4_shares_49 (by decide) (fun c49 => absurd c49 (by omega)) (fun c49 => ?_)
    refine z_iload_n E dX4_shares_52 rfl 1 rfl ?_
    refine z_aload_n E dX4_shares_53 rfl 0 rfl ?_
    refine m_get E 14 (by decide) rfl q1684 rfl dX4_shares_54 ?_
    refine z_iload_n E dX4_shares_57 rfl 2 rfl ?_
    refine m_ald E (j := 14) (q := i) (by decide) (by show _ < 6; omega) (by omega) dX4_shares_58 ?_
    have J59 : ∀ (j59_0 : Int32), j59_0 = (if (s.2.2 14 i) ≤ 0 then ((0 : Int32)) else ((1 : Int32))) → Z X w 3 (zQ X w P PX) (mS m ad h0 s.2) 0 0 [(0, .ref m), (1, .int s.1), (2, .int (nI i))] 67 [.int j59_0, .int s.1] := by
      intro j59_0 ej59_0
      subst ej59_0
      refine z_iadd E dX4_shares_67 ?_
      refine z_istore_n (lv' := [(1, .int (s.1 + (if (s.2.2 14 i) ≤ 0 then ((0 : Int32)) else ((1 : Int32))))), (0, .ref m), (2, .int (nI i))]) E dX4_shares_68 rfl (by decide) rfl ?_
      refine z_aload_n E dX4_shares_69 rfl 1 rfl ?_
      refine m_get E 9 (by decide) rfl q1679 rfl dX4_shares_70 ?_
      refine z_iload_n E dX4_shares_73 rfl 2 rfl ?_
      refine z_iconst (v := 2) E dX4_shares_74 (by decide) ?_
      refine z_callSi E (rest := [.ref (ad 9)]) (k' := 0) (n' := 0) cs_X4_at (mm_X4_at i 2) q1667 rfl rfl (Nat.le_of_ble_eq_true rfl) (Nat.le_of_ble_eq_true rfl) (Nat.le_of_ble_eq_true rfl) dX4_shares_75 (Nat.le_refl _) (Nat.le_refl _) ?_
      refine z_dup2_11 E dX4_shares_78 rfl rfl ?_
      refine m_ald E (j := 9) (q := 6 + 4 * i + 2) (by decide) (by show _ < 126; omega) (by omega) dX4_shares_79 ?_
      refine z_aload_n E dX4_shares_80 rfl 1 rfl ?_
      refine m_get E 14 (by decide) rfl q1684 rfl dX4_shares_81 ?_
      refine z_iload_n E dX4_shares_84 rfl 2 rfl ?_
      refine m_ald E (j := 14) (q := i) (by decide) (by show _ < 6; omega) (by omega) dX4_shares_85 ?_
      refine z_iadd E dX4_shares_86 ?_
      refine m_ast E (j := 9) (q := 6 + 4 * i + 2) (by decide) (by show _ < 126; omega) (by omega) dX4_shares_87 ?_
      generalize hs87 : setA s.2 9 (6 + 4 * i + 2) ((s.2.2 9 (6 + 4 * i + 2)) + (s.2.2 14 i)) = s87
      refine z_aload_n E dX4_shares_88 rfl 1 rfl ?_
      refine m_get E 9 (by decide) rfl q1679 rfl dX4_shares_89 ?_
      refine z_iload_n E dX4_shares_92 rfl 2 rfl ?_
      refine z_iconst (v := 3) E dX4_shares_93 (by decide) ?_
      refine z_callSi E (rest := [.ref (ad 9)]) (k' := 0) (n' := 0) cs_X4_at (mm_X4_at i 3) q1667 rfl rfl (Nat.le_of_ble_eq_true rfl) (Nat.le_of_ble_eq_true rfl) (Nat.le_of_ble_eq_true rfl) dX4_shares_94 (Nat.le_refl _) (Nat.le_refl _) ?_
      refine z_iconst (v := 0) E dX4_shares_97 (by decide) ?_
      refine m_ast E (j := 9) (q := 6 + 4 * i + 3) (by decide) (by show _ < 126; omega) (by omega) dX4_shares_98 ?_
      generalize hs98 : setA s87 9 (6 + 4 * i + 3) 0 = s98
      refine z_iinc (v := nI (i + 1)) (lv' := [(2, .int (nI (i + 1))), (1, .int (s.1 + (if (s.2.2 14 i) ≤ 0 then ((0 : Int32)) else ((1 : Int32))))), (0, .ref m)]) E dX4_shares_99 (j := 2) rfl (nI_add _ 1) (by decide) rfl ?_
      refine z_goto (tgt := 46) E dX4_shares_102 (by decide) ?_
      refine z_sub (lv' := [(0, .ref m), (1, .int (s.1 + (if (s.2.2 14 i) ≤ 0 then ((0 : Int32)) else ((1 : Int32))))), (2, .int (nI (i + 1)))]) [2, 1, 0] rfl ?_
      subst hs98 hs87
      exact ih1
    refine z_if_le (tgt := 66) E dX4_shares_59 (by decide) (fun c59 => ?_) (fun c59 => ?_)
    · refine z_iconst (v := 0) E dX4_shares_66 (by decide) ?_
      exact J59 _ ((if_pos c59).symm)
    · refine z_iconst (v := 1) E dX4_shares_62 (by decide) ?_
      refine z_goto (tgt := 67) E dX4_shares_63 (by decide) ?_
      exact J59 _ ((if_neg c59).symm)
theorem cv_X4_shares : zCV yX4_shares RX4 cX4_shares 3 (some .int) 0 := ⟨⟨q1863, qs53, q95, q1864⟩, by decide +kernel⟩
def M_shares (σ : mSt) (n e : Nat) : Int32 × mSt :=
  if (M_pooled σ) = 0 then
    let s16 := (M_refuses σ 11 (σ.2 9 0)).2
    ((M_refuses σ 11 (σ.2 9 0)).1, s16)
  else
    if (M_claims σ n) = 0 then
      let s34 := (M_refuses σ 12 (M_pooled σ)).2
      ((M_refuses σ 12 (M_pooled σ)).1, s34)
    else
      let s41 := M_finds σ n e
      let s46 := (iterN (B_shares ) (0, s41) 6).2
      ((iterN (B_shares ) (0, s41) 6).1, s46)
set_option maxHeartbeats 4000000 in
theorem mb_X4_shares {X : zX} {w : zWd} {m : Nat} {ad : Nat → Nat} {h0 : zH} {σ : mSt} {P : Option Value → zH → Prop} {PX : Nat → zH → Prop} (n e : Nat) (I : MI (σ.2 9) n) (he : 0 < M_claims σ n → (iterN (B_finds1 n (M_pooled σ) (M_claims σ n)) (M_pooled σ, σ) 6).1 = nI e) (he2 : e < 2147483648) (E : zOK X w RX4 cX4_shares 3 5 112 [] (some .int) "shares") (hP : ∀ r9 s9 h9, (r9, s9) = M_shares σ n e → mS m ad h0 s9 h9 → P (some (.int r9)) h9) : Z X w 3 (zQ X w P PX) (mS m ad h0 σ) 0 0 [(0, .ref m)] 0 [] := by
  have hn12 := I.2.1
  refine z_aload_n E dX4_shares_0 rfl 0 rfl ?_
  refine z_callVi E (rest := []) (k' := 0) (n' := 0) cv_X4_pooled (mm_X4_pooled (σ := σ) ) q1853 rfl mS_o rfl rfl (Nat.le_of_ble_eq_true rfl) (Nat.le_of_ble_eq_true rfl) (Nat.le_of_ble_eq_true rfl) dX4_shares_1 (Nat.le_refl _) (Nat.le_refl _) ?_
  refine z_if_ne (tgt := 20) E dX4_shares_4 (by decide) (fun c4 => ?_) (fun c4 => ?_)
  · refine z_aload_n E dX4_shares_20 rfl 0 rfl ?_
    refine z_callVi E (rest := []) (k' := 0) (n' := 0) cv_X4_claims (mm_X4_claims (σ := σ) n (I)) q1865 rfl mS_o rfl rfl (Nat.le_of_ble_eq_true rfl) (Nat.le_of_ble_eq_true rfl) (Nat.le_of_ble_eq_true rfl) dX4_shares_21 (Nat.le_refl _) (Nat.le_refl _) ?_
    refine z_if_ne (tgt := 38) E dX4_shares_24 (by decide) (fun c24 => ?_) (fun c24 => ?_)
    · refine z_iconst (v := 0) E dX4_shares_38 (by decide) ?_
      refine z_istore_n (lv' := [(1, .int 0), (0, .ref m)]) E dX4_shares_39 rfl (by decide) rfl ?_
      refine z_aload_n E dX4_shares_40 rfl 1 rfl ?_
      refine z_callVv E (rest := []) (k' := 0) (n' := 0) cv_X4_finds (mm_X4_finds (σ := σ) n e (I) (he) (he2)) q1873 rfl mS_o rfl rfl (Nat.le_of_ble_eq_true rfl) (Nat.le_of_ble_eq_true rfl) (Nat.le_of_ble_eq_true rfl) dX4_shares_41 (Nat.le_refl _) (Nat.le_refl _) ?_
      generalize hs41 : M_finds σ n e = s41
      refine z_iconst (v := 0) E dX4_shares_44 (by decide) ?_
      refine z_istore_n (lv' := [(2, .int 0), (1, .int 0), (0, .ref m)]) E dX4_shares_45 rfl (by decide) rfl ?_
      refine z_sub (lv' := [(0, .ref m), (1, .int 0), (2, .int 0)]) [2, 1, 0] rfl ?_
      refine ml_shares   (0, s41)  E ?_ 6 0 (by omega)
      generalize hs46 : (iterN (B_shares ) (0, s41) 6).2 = s46
      refine z_iload_n E dX4_shares_105 rfl 1 rfl ?_
      exact z_iret E dX4_shares_106 (fun h9 q9 => hP _ _ h9 (by subst hs46 hs41; unfold M_shares; dsimp only; rw [if_neg c4, if_neg c24]) q9)
    · refine z_aload_n E dX4_shares_27 rfl 0 rfl ?_
      refine z_bipush (v := 12) E dX4_shares_28 (by decide) ?_
      refine z_aload_n E dX4_shares_30 rfl 0 rfl ?_
      refine z_callVi E (rest := [.int 12, .ref m]) (k' := 0) (n' := 0) cv_X4_pooled (mm_X4_pooled (σ := σ) ) q1853 rfl mS_o rfl rfl (Nat.le_of_ble_eq_true rfl) (Nat.le_of_ble_eq_true rfl) (Nat.le_of_ble_eq_true rfl) dX4_shares_31 (Nat.le_refl _) (Nat.le_refl _) ?_
      refine z_callVi E (rest := []) (k' := 0) (n' := 0) cv_X4_refuses (mm_X4_refuses (σ := σ) 12 (M_pooled σ)) q1778 rfl mS_o rfl rfl (Nat.le_of_ble_eq_true rfl) (Nat.le_of_ble_eq_true rfl) (Nat.le_of_ble_eq_true rfl) dX4_shares_34 (Nat.le_refl _) (Nat.le_refl _) ?_
      generalize hs34 : (M_refuses σ 12 (M_pooled σ)).2 = s34
      exact z_iret E dX4_shares_37 (fun h9 q9 => hP _ _ h9 (by subst hs34; unfold M_shares; dsimp only; rw [if_neg c4, if_pos c24]) q9)
  · refine z_aload_n E dX4_shares_7 rfl 0 rfl ?_
    refine z_bipush (v := 11) E dX4_shares_8 (by decide) ?_
    refine z_aload_n E dX4_shares_10 rfl 0 rfl ?_
    refine m_get E 9 (by decide) rfl q1679 rfl dX4_shares_11 ?_
    refine z_iconst (v := 0) E dX4_shares_14 (by decide) ?_
    refine m_ald E (j := 9) (q := 0) (by decide) (by show _ < 126; omega) (by omega) dX4_shares_15 ?_
    refine z_callVi E (rest := []) (k' := 0) (n' := 0) cv_X4_refuses (mm_X4_refuses (σ := σ) 11 (σ.2 9 0)) q1778 rfl mS_o rfl rfl (Nat.le_of_ble_eq_true rfl) (Nat.le_of_ble_eq_true rfl) (Nat.le_of_ble_eq_true rfl) dX4_shares_16 (Nat.le_refl _) (Nat.le_refl _) ?_
    generalize hs16 : (M_refuses σ 11 (σ.2 9 0)).2 = s16
    exact z_iret E dX4_shares_19 (fun h9 q9 => hP _ _ h9 (by subst hs16; unfold M_shares; dsimp only; rw [if_pos c4]) q9)
theorem mm_X4_shares {l : Launch} {w : zWd} {m : Nat} {ad : Nat → Nat} {h0 : zH} {σ : mSt} (n e : Nat) (I : MI (σ.2 9) n) (he : 0 < M_claims σ n → (iterN (B_finds1 n (M_pooled σ) (M_claims σ n)) (M_pooled σ, σ) 6).1 = nI e) (he2 : e < 2147483648) : ZM l w yX4_shares (ws_ yX4_shares cX4_shares 3 (some .int)) 5 112 0 0 [.ref m] (mS m ad h0 σ) (zri (M_shares σ n e).1 (mS m ad h0 (M_shares σ n e).2)) zno :=
  zm_of (by decide) rfl (Nat.le_of_ble_eq_true rfl) (fun X _ E => mb_X4_shares n e I he he2 E (fun r s h e q => by rw [← e]; exact ⟨rfl, q⟩))
theorem cv_X4_part : zCV yX4_part RX4 cX4_part 2 (some .int) 1 := ⟨⟨q1878, q1879, q95, q1880⟩, by decide +kernel⟩
def M_part (σ : mSt) (n e : Nat) (h : Int32) : Int32 × mSt :=
  if (M_isHouse h) = 0 then
    (-1011, σ)
  else
    let k1 := h.toNatClampNeg
    let s12 := M_finds σ n e
    (s12.2 14 k1, s12)
set_option maxHeartbeats 4000000 in
theorem mb_X4_part {X : zX} {w : zWd} {m : Nat} {ad : Nat → Nat} {h0 : zH} {σ : mSt} {P : Option Value → zH → Prop} {PX : Nat → zH → Prop} (n e : Nat) (h : Int32) (I : MI (σ.2 9) n) (he : 0 < M_claims σ n → (iterN (B_finds1 n (M_pooled σ) (M_claims σ n)) (M_pooled σ, σ) 6).1 = nI e) (he2 : e < 2147483648) (E : zOK X w RX4 cX4_part 2 5 112 [] (some .int) "part") (hP : ∀ r9 s9 h9, (r9, s9) = M_part σ n e h → mS m ad h0 s9 h9 → P (some (.int r9)) h9) : Z X w 2 (zQ X w P PX) (mS m ad h0 σ) 0 0 [(0, .ref m), (1, .int h)] 0 [] := by
  have hn12 := I.2.1
  refine z_iload_n E dX4_part_0 rfl 1 rfl ?_
  refine z_callSi E (rest := []) (k' := 0) (n' := 0) cs_X4_isHouse (mm_X4_isHouse h) q1761 rfl rfl (Nat.le_of_ble_eq_true rfl) (Nat.le_of_ble_eq_true rfl) (Nat.le_of_ble_eq_true rfl) dX4_part_1 (Nat.le_refl _) (Nat.le_refl _) ?_
  refine z_if_ne (tgt := 11) E dX4_part_4 (by decide) (fun c4 => ?_) (fun c4 => ?_)
  · have hk1p := zHouse_e c4
    generalize hk1 : h.toNatClampNeg = k1 at hk1p ⊢
    have hk1l := hk1p.2
    rw [hk1p.1]
    refine z_aload_n E dX4_part_11 rfl 0 rfl ?_
    refine z_callVv E (rest := []) (k' := 0) (n' := 0) cv_X4_finds (mm_X4_finds (σ := σ) n e (I) (he) (he2)) q1873 rfl mS_o rfl rfl (Nat.le_of_ble_eq_true rfl) (Nat.le_of_ble_eq_true rfl) (Nat.le_of_ble_eq_true rfl) dX4_part_12 (Nat.le_refl _) (Nat.le_refl _) ?_
    generalize hs12 : M_finds σ n e = s12
    refine z_aload_n E dX4_part_15 rfl 0 rfl ?_
    refine m_get E 14 (by decide) rfl q1684 rfl dX4_part_16 ?_
    refine z_iload_n E dX4_part_19 rfl 1 rfl ?_
    refine m_ald E (j := 14) (q := k1) (by decide) (by show _ < 6; omega) (by omega) dX4_part_20 ?_
    exact z_iret E dX4_part_21 (fun h9 q9 => hP _ _ h9 (by subst hs12 hk1; unfold M_part; dsimp only; rw [if_neg c4]) q9)
  · refine z_sipush (v := -1011) E dX4_part_7 (by decide) ?_
    exact z_iret E dX4_part_10 (fun h9 q9 => hP _ _ h9 (by unfold M_part; rw [if_pos c4]) q9)
theorem mm_X4_part {l : Launch} {w : zWd} {m : Nat} {ad : Nat → Nat} {h0 : zH} {σ : mSt} (n e : Nat) (h : Int32) (I : MI (σ.2 9) n) (he : 0 < M_claims σ n → (iterN (B_finds1 n (M_pooled σ) (M_claims σ n)) (M_pooled σ, σ) 6).1 = nI e) (he2 : e < 2147483648) : ZM l w yX4_part (ws_ yX4_part cX4_part 2 (some .int)) 5 112 0 0 [.ref m, .int h] (mS m ad h0 σ) (zri (M_part σ n e h).1 (mS m ad h0 (M_part σ n e h).2)) zno :=
  zm_of (by decide) rfl (Nat.le_of_ble_eq_true rfl) (fun X _ E => mb_X4_part n e h I he he2 E (fun r s h e q => by rw [← e]; exact ⟨rfl, q⟩))
theorem cv_X4_partAgain : zCV yX4_partAgain RX4 cX4_partAgain 2 (some .int) 1 := ⟨⟨q1882, q1883, q95, q1884⟩, by decide +kernel⟩
def M_partAgain (σ : mSt) (n e : Nat) (h : Int32) : Int32 × mSt :=
  let s2 := (M_part σ n e h).2
  ((M_part σ n e h).1, s2)
set_option maxHeartbeats 4000000 in
theorem mb_X4_partAgain {X : zX} {w : zWd} {m : Nat} {ad : Nat → Nat} {h0 : zH} {σ : mSt} {P : Option Value → zH → Prop} {PX : Nat → zH → Prop} (n e : Nat) (h : Int32) (I : MI (σ.2 9) n) (he : 0 < M_claims σ n → (iterN (B_finds1 n (M_pooled σ) (M_claims σ n)) (M_pooled σ, σ) 6).1 = nI e) (he2 : e < 2147483648) (E : zOK X w RX4 cX4_partAgain 2 6 133 [] (some .int) "partAgain") (hP : ∀ r9 s9 h9, (r9, s9) = M_partAgain σ n e h → mS m ad h0 s9 h9 → P (some (.int r9)) h9) : Z X w 2 (zQ X w P PX) (mS m ad h0 σ) 0 0 [(0, .ref m), (1, .int h)] 0 [] := by
  have hn12 := I.2.1
  refine z_aload_n E dX4_partAgain_0 rfl 0 rfl ?_
  refine z_iload_n E dX4_partAgain_1 rfl 1 rfl ?_
  refine z_callVi E (rest := []) (k' := 0) (n' := 0) cv_X4_part (mm_X4_part (σ := σ) n e h (I) (he) (he2)) q1885 rfl mS_o rfl rfl (Nat.le_of_ble_eq_true rfl) (Nat.le_of_ble_eq_true rfl) (Nat.le_of_ble_eq_true rfl) dX4_partAgain_2 (Nat.le_refl _) (Nat.le_refl _) ?_
  generalize hs2 : (M_part σ n e h).2 = s2
  exact z_iret E dX4_partAgain_5 (fun h9 q9 => hP _ _ h9 (by subst hs2; unfold M_partAgain; rfl) q9)
theorem mm_X4_partAgain {l : Launch} {w : zWd} {m : Nat} {ad : Nat → Nat} {h0 : zH} {σ : mSt} (n e : Nat) (h : Int32) (I : MI (σ.2 9) n) (he : 0 < M_claims σ n → (iterN (B_finds1 n (M_pooled σ) (M_claims σ n)) (M_pooled σ, σ) 6).1 = nI e) (he2 : e < 2147483648) : ZM l w yX4_partAgain (ws_ yX4_partAgain cX4_partAgain 2 (some .int)) 6 133 0 0 [.ref m, .int h] (mS m ad h0 σ) (zri (M_partAgain σ n e h).1 (mS m ad h0 (M_partAgain σ n e h).2)) zno :=
  zm_of (by decide) rfl (Nat.le_of_ble_eq_true rfl) (fun X _ E => mb_X4_partAgain n e h I he he2 E (fun r s h e q => by rw [← e]; exact ⟨rfl, q⟩))
def F_chase (v : Nat → Int32) (h : Nat) : Nat → Nat → Option Nat
  | 0, _ => none
  | d + 1, a => if a ≠ h ∧ v (6 + 4 * a + 0) = 1 then some a else F_chase v h d (v (6 + 4 * a + 1)).toNatClampNeg
def F_low (v : Nat → Int32) (h : Nat) : Nat → Nat → Nat
  | 0, a => a
  | d + 1, a => if a = h ∨ ¬ v (6 + 4 * a + 0) = 1 then F_low v h d (a + 1) else a
def F_heir (v : Nat → Int32) (h : Nat) : Nat := (F_chase v h 6 (v (6 + 4 * h + 1)).toNatClampNeg).getD (F_low v h 6 0)
theorem isOpen_1 {σ : mSt} {a : Nat} : ¬ M_isOpen σ a = 0 ↔ σ.2 9 (6 + 4 * a + 0) = 1 := by
  unfold M_isOpen
  split
  · exact ⟨fun _ => by assumption, fun _ => by decide⟩
  · exact ⟨fun z => absurd rfl z, fun z => absurd z (by assumption)⟩
theorem F_low_lt {v : Nat → Int32} {h : Nat} : ∀ d a, a + d = 6 → (∃ j, a ≤ j ∧ j < 6 ∧ j ≠ h ∧ v (6 + 4 * j + 0) = 1) → F_low v h d a < 6 := by
  intro d
  induction d with
  | zero => intro a ha ⟨j, h1, h2, _⟩; omega
  | succ d ih =>
    intro a ha ⟨j, h1, h2, h3, h4⟩
    rw [F_low]
    split
    · refine ih (a + 1) (by omega) ⟨j, ?_, h2, h3, h4⟩
      rcases Nat.lt_or_ge a j with q | q
      · omega
      · exfalso
        have e : a = j := by omega
        subst e
        rcases ‹a = h ∨ ¬ v (6 + 4 * a + 0) = 1› with q1 | q1
        · exact h3 q1
        · exact q1 h4
    · omega
theorem cv_X4_inForce : zCV yX4_inForce RX4 cX4_inForce 4 (some .int) 1 := ⟨⟨q1916, qs61, q95, q1917⟩, by decide +kernel⟩
set_option maxHeartbeats 4000000 in
theorem ml_chase {X : zX} {w : zWd} {m : Nat} {ad : Nat → Nat} {h0 : zH} {σ : mSt} {P : Option Value → zH → Prop} {PX : Nat → zH → Prop} {n h : Nat} (I : MI (σ.2 9) n) (hh : h < 6) (E : zOK X w RX4 cX4_inForce 4 2 42 [] (some .int) "inForce") : ∀ d i a, i + d = 6 → a < 6 → (∀ r h9, F_chase (σ.2 9) h d a = some r → mS m ad h0 σ h9 → P (some (.int (nI r))) h9) → (F_chase (σ.2 9) h d a = none → ∀ a', Z X w 4 (zQ X w P PX) (mS m ad h0 σ) 0 0 [(0, .ref m), (1, .int (nI h)), (2, .int (nI a')), (3, .int (nI 6))] 51 []) → Z X w 4 (zQ X w P PX) (mS m ad h0 σ) 0 0 [(0, .ref m), (1, .int (nI h)), (2, .int (nI a)), (3, .int (nI i))] 13 [] := by
  intro d
  induction d with
  | zero =>
    intro i a hi ha hr hx
    have hi : i = 6 := by omega
    rw [hi]
    refine z_iload_n E dX4_inForce_13 rfl 3 rfl ?_
    refine z_bipush (v := 6) E dX4_inForce_14 (by decide) ?_
    refine z_icmp_geN (a := 6) (b := 6) (tgt := 51) E (by omega) (by omega) dX4_inForce_16 (by decide) (fun c16 => ?_) (fun c16 => absurd c16 (by omega))
    exact hx rfl a
  | succ d ih =>
    intro i a hi ha hr hx
    refine z_iload_n E dX4_inForce_13 rfl 3 rfl ?_
    refine z_bipush (v := 6) E dX4_inForce_14 (by decide) ?_
    refine z_icmp_geN (a := i) (b := 6) (tgt := 51) E (by omega) (by omega) dX4_inForce_16 (by decide) (fun c16 => absurd c16 (by omega)) (fun c16 => ?_)
    refine z_iload_n E dX4_inForce_19 rfl 2 rfl ?_
    refine z_iload_n E dX4_inForce_20 rfl 1 rfl ?_
    refine z_icmp_eqN (a := a) (b := h) (tgt := 34) E (by omega) (by omega) dX4_inForce_21 (by decide) (fun c21 => ?_) (fun c21 => ?_)
    · refine z_aload_n E dX4_inForce_34 rfl 0 rfl ?_
      refine m_get E 9 (by decide) rfl q1679 rfl dX4_inForce_35 ?_
      refine z_iload_n E dX4_inForce_38 rfl 2 rfl ?_
      refine z_iconst (v := 1) E dX4_inForce_39 (by decide) ?_
      refine z_callSi E (rest := [.ref (ad 9)]) (k' := 0) (n' := 0) cs_X4_at (mm_X4_at a 1) q1667 rfl rfl (Nat.le_of_ble_eq_true rfl) (Nat.le_of_ble_eq_true rfl) (Nat.le_of_ble_eq_true rfl) dX4_inForce_40 (Nat.le_refl _) (Nat.le_refl _) ?_
      refine m_ald E (j := 9) (q := 6 + 4 * a + 1) (by decide) (by show _ < 126; omega) (by omega) dX4_inForce_43 ?_
      have hj41p : (σ.2 9 (6 + 4 * a + 1)) = nI (σ.2 9 (6 + 4 * a + 1)).toNatClampNeg ∧ (σ.2 9 (6 + 4 * a + 1)).toNatClampNeg < 6 := MI_he I ha
      generalize hj41 : (σ.2 9 (6 + 4 * a + 1)).toNatClampNeg = j41 at hj41p
      have hj41l := hj41p.2
      refine z_top hj41p.1 ?_
      refine z_istore_n (lv' := [(2, .int (nI j41)), (0, .ref m), (1, .int (nI h)), (3, .int (nI i))]) E dX4_inForce_44 rfl (by decide) rfl ?_
      refine z_iinc (v := nI (i + 1)) (lv' := [(3, .int (nI (i + 1))), (2, .int (nI j41)), (0, .ref m), (1, .int (nI h))]) E dX4_inForce_45 (j := 3) rfl (nI_add _ 1) (by decide) rfl ?_
      refine z_goto (tgt := 13) E dX4_inForce_48 (by decide) ?_
      refine z_sub (lv' := [(0, .ref m), (1, .int (nI h)), (2, .int (nI j41)), (3, .int (nI (i + 1)))]) [2, 3, 1, 0] rfl ?_
      subst hj41
      exact ih (i + 1) _ (by omega) hj41l (fun r h9 e => hr r h9 (by rw [F_chase, if_neg (fun z => z.1 c21)]; exact e)) (fun e => hx (by rw [F_chase, if_neg (fun z => z.1 c21)]; exact e))
    · refine z_aload_n E dX4_inForce_24 rfl 0 rfl ?_
      refine z_iload_n E dX4_inForce_25 rfl 2 rfl ?_
      refine z_callVi E (rest := []) (k' := 0) (n' := 0) cv_X4_isOpen (mm_X4_isOpen (σ := σ) a (by omega)) q1774 rfl mS_o rfl rfl (Nat.le_of_ble_eq_true rfl) (Nat.le_of_ble_eq_true rfl) (Nat.le_of_ble_eq_true rfl) dX4_inForce_26 (Nat.le_refl _) (Nat.le_refl _) ?_
      refine z_if_eq (tgt := 34) E dX4_inForce_29 (by decide) (fun c29 => ?_) (fun c29 => ?_)
      · refine z_aload_n E dX4_inForce_34 rfl 0 rfl ?_
        refine m_get E 9 (by decide) rfl q1679 rfl dX4_inForce_35 ?_
        refine z_iload_n E dX4_inForce_38 rfl 2 rfl ?_
        refine z_iconst (v := 1) E dX4_inForce_39 (by decide) ?_
        refine z_callSi E (rest := [.ref (ad 9)]) (k' := 0) (n' := 0) cs_X4_at (mm_X4_at a 1) q1667 rfl rfl (Nat.le_of_ble_eq_true rfl) (Nat.le_of_ble_eq_true rfl) (Nat.le_of_ble_eq_true rfl) dX4_inForce_40 (Nat.le_refl _) (Nat.le_refl _) ?_
        refine m_ald E (j := 9) (q := 6 + 4 * a + 1) (by decide) (by show _ < 126; omega) (by omega) dX4_inForce_43 ?_
        have hj41p : (σ.2 9 (6 + 4 * a + 1)) = nI (σ.2 9 (6 + 4 * a + 1)).toNatClampNeg ∧ (σ.2 9 (6 + 4 * a + 1)).toNatClampNeg < 6 := MI_he I ha
        generalize hj41 : (σ.2 9 (6 + 4 * a + 1)).toNatClampNeg = j41 at hj41p
        have hj41l := hj41p.2
        refine z_top hj41p.1 ?_
        refine z_istore_n (lv' := [(2, .int (nI j41)), (0, .ref m), (1, .int (nI h)), (3, .int (nI i))]) E dX4_inForce_44 rfl (by decide) rfl ?_
        refine z_iinc (v := nI (i + 1)) (lv' := [(3, .int (nI (i + 1))), (2, .int (nI j41)), (0, .ref m), (1, .int (nI h))]) E dX4_inForce_45 (j := 3) rfl (nI_add _ 1) (by decide) rfl ?_
        refine z_goto (tgt := 13) E dX4_inForce_48 (by decide) ?_
        refine z_sub (lv' := [(0, .ref m), (1, .int (nI h)), (2, .int (nI j41)), (3, .int (nI (i + 1)))]) [2, 3, 1, 0] rfl ?_
        subst hj41
        exact ih (i + 1) _ (by omega) hj41l (fun r h9 e => hr r h9 (by rw [F_chase, if_neg (fun z => (isOpen_1.mpr z.2) c29)]; exact e)) (fun e => hx (by rw [F_chase, if_neg (fun z => (isOpen_1.mpr z.2) c29)]; exact e))
      · refine z_iload_n E dX4_inForce_32 rfl 2 rfl ?_
        exact z_iret E dX4_inForce_33 (fun h9 q9 => hr a h9 (by rw [F_chase, if_pos ⟨c21, isOpen_1.mp c29⟩]) q9)
set_option maxHeartbeats 4000000 in
theorem ml_low {X : zX} {w : zWd} {m : Nat} {ad : Nat → Nat} {h0 : zH} {σ : mSt} {P : Option Value → zH → Prop} {PX : Nat → zH → Prop} {n h : Nat} (I : MI (σ.2 9) n) (hh : h < 6) (E : zOK X w RX4 cX4_inForce 4 2 42 [] (some .int) "inForce") : ∀ d a, a + d = 6 → (∃ j, a ≤ j ∧ j < 6 ∧ j ≠ h ∧ σ.2 9 (6 + 4 * j + 0) = 1) → (∀ h9, mS m ad h0 σ h9 → P (some (.int (nI (F_low (σ.2 9) h d a)))) h9) → Z X w 4 (zQ X w P PX) (mS m ad h0 σ) 0 0 [(0, .ref m), (1, .int (nI h)), (2, .int (nI a))] 53 [] := by
  intro d
  induction d with
  | zero => intro a ha hx; obtain ⟨j, h1, h2, -⟩ := hx; omega
  | succ d ih =>
    intro a ha hx hr
    have ha6 : a < 6 := by obtain ⟨j, h1, h2, -⟩ := hx; omega
    refine z_iload_n E dX4_inForce_53 rfl 2 rfl ?_
    refine z_iload_n E dX4_inForce_54 rfl 1 rfl ?_
    refine z_icmp_eqN (a := a) (b := h) (tgt := 66) E (by omega) (by omega) dX4_inForce_55 (by decide) (fun c55 => ?_) (fun c55 => ?_)
    · refine z_iinc (v := nI (a + 1)) (lv' := [(2, .int (nI (a + 1))), (0, .ref m), (1, .int (nI h))]) E dX4_inForce_66 (j := 2) rfl (nI_add _ 1) (by decide) rfl ?_
      refine z_goto (tgt := 53) E dX4_inForce_69 (by decide) ?_
      refine z_sub (lv' := [(0, .ref m), (1, .int (nI h)), (2, .int (nI (a + 1)))]) [1, 2, 0] rfl ?_
      refine ih (a + 1) (by omega) ?_ (fun h9 q9 => ?_)
      · obtain ⟨j, h1, h2, h3, h4⟩ := hx
        refine ⟨j, ?_, h2, h3, h4⟩
        rcases Nat.lt_or_ge a j with q | q
        · omega
        · exact (h3 (by omega)).elim
      · have e := hr h9 q9
        rw [F_low, if_pos (Or.inl c55)] at e
        exact e
    · refine z_aload_n E dX4_inForce_58 rfl 0 rfl ?_
      refine z_iload_n E dX4_inForce_59 rfl 2 rfl ?_
      refine z_callVi E (rest := []) (k' := 0) (n' := 0) cv_X4_isOpen (mm_X4_isOpen (σ := σ) a (by omega)) q1774 rfl mS_o rfl rfl (Nat.le_of_ble_eq_true rfl) (Nat.le_of_ble_eq_true rfl) (Nat.le_of_ble_eq_true rfl) dX4_inForce_60 (Nat.le_refl _) (Nat.le_refl _) ?_
      refine z_if_ne (tgt := 72) E dX4_inForce_63 (by decide) (fun c63 => ?_) (fun c63 => ?_)
      · refine z_iload_n E dX4_inForce_72 rfl 2 rfl ?_
        exact z_iret E dX4_inForce_73 (fun h9 q9 => by have e := hr h9 q9; rw [F_low, if_neg (fun z => z.elim c55 (fun y => y (isOpen_1.mp c63)))] at e; exact e)
      · refine z_iinc (v := nI (a + 1)) (lv' := [(2, .int (nI (a + 1))), (0, .ref m), (1, .int (nI h))]) E dX4_inForce_66 (j := 2) rfl (nI_add _ 1) (by decide) rfl ?_
        refine z_goto (tgt := 53) E dX4_inForce_69 (by decide) ?_
        refine z_sub (lv' := [(0, .ref m), (1, .int (nI h)), (2, .int (nI (a + 1)))]) [1, 2, 0] rfl ?_
        refine ih (a + 1) (by omega) ?_ (fun h9 q9 => ?_)
        · obtain ⟨j, h1, h2, h3, h4⟩ := hx
          refine ⟨j, ?_, h2, h3, h4⟩
          rcases Nat.lt_or_ge a j with q | q
          · omega
          · exact ((isOpen_1.mpr (show σ.2 9 (6 + 4 * a + 0) = 1 from by rw [show a = j by omega]; exact h4)) c63).elim
        · have e := hr h9 q9
          rw [F_low, if_pos (Or.inr (fun z => (isOpen_1.mpr z) c63))] at e
          exact e
set_option maxHeartbeats 4000000 in
theorem mm_X4_inForce {l : Launch} {w : zWd} {m : Nat} {ad : Nat → Nat} {h0 : zH} {σ : mSt} {n : Nat} (h : Nat) (I : MI (σ.2 9) n) (hh : h < 6) (hx : ∃ j, j < 6 ∧ j ≠ h ∧ σ.2 9 (6 + 4 * j + 0) = 1) : ZM l w yX4_inForce (ws_ yX4_inForce cX4_inForce 4 (some .int)) 2 42 0 0 [.ref m, .int (nI h)] (mS m ad h0 σ) (zri (nI (F_heir (σ.2 9) h)) (mS m ad h0 σ)) zno := by
  refine zm_of (by decide) rfl (Nat.le_of_ble_eq_true rfl) (fun X _ E => ?_)
  refine z_aload_n E dX4_inForce_0 rfl 0 rfl ?_
  refine m_get E 9 (by decide) rfl q1679 rfl dX4_inForce_1 ?_
  refine z_iload_n E dX4_inForce_4 rfl 1 rfl ?_
  refine z_iconst (v := 1) E dX4_inForce_5 (by decide) ?_
  refine z_callSi E (rest := [.ref (ad 9)]) (k' := 0) (n' := 0) cs_X4_at (mm_X4_at h 1) q1667 rfl rfl (Nat.le_of_ble_eq_true rfl) (Nat.le_of_ble_eq_true rfl) (Nat.le_of_ble_eq_true rfl) dX4_inForce_6 (Nat.le_refl _) (Nat.le_refl _) ?_
  refine m_ald E (j := 9) (q := 6 + 4 * h + 1) (by decide) (by show _ < 126; omega) (by omega) dX4_inForce_9 ?_
  have hj10p : (σ.2 9 (6 + 4 * h + 1)) = nI (σ.2 9 (6 + 4 * h + 1)).toNatClampNeg ∧ (σ.2 9 (6 + 4 * h + 1)).toNatClampNeg < 6 := MI_he I hh
  generalize hj10 : (σ.2 9 (6 + 4 * h + 1)).toNatClampNeg = j10 at hj10p
  have hj10l := hj10p.2
  refine z_top hj10p.1 ?_
  refine z_istore_n (lv' := [(2, .int (nI j10)), (0, .ref m), (1, .int (nI h))]) E dX4_inForce_10 rfl (by decide) rfl ?_
  refine z_iconst (v := 0) E dX4_inForce_11 (by decide) ?_
  refine z_istore_n (lv' := [(3, .int 0), (2, .int (nI j10)), (0, .ref m), (1, .int (nI h))]) E dX4_inForce_12 rfl (by decide) rfl ?_
  refine z_sub (lv' := [(0, .ref m), (1, .int (nI h)), (2, .int (nI j10)), (3, .int 0)]) [2, 3, 1, 0] rfl ?_
  refine ml_chase I hh E 6 0 j10 (by omega) hj10l (fun r h9 e q => ⟨by unfold F_heir; rw [hj10, e]; rfl, q⟩) (fun e a' => ?_)
  refine z_iconst (v := 0) E dX4_inForce_51 (by decide) ?_
  refine z_istore_n (lv' := [(2, .int 0), (0, .ref m), (1, .int (nI h)), (3, .int (nI 6))]) E dX4_inForce_52 rfl (by decide) rfl ?_
  refine z_sub (lv' := [(0, .ref m), (1, .int (nI h)), (2, .int 0)]) [1, 2, 0] rfl ?_
  refine ml_low I hh E 6 0 (by omega) ?_ (fun h9 q => ⟨by unfold F_heir; rw [hj10, e]; rfl, q⟩)
  obtain ⟨j, h1, h2, h3⟩ := hx
  exact ⟨j, Nat.zero_le _, h1, h2, h3⟩
theorem F_chase_lt {v : Nat → Int32} {h n : Nat} (I : MI v n) : ∀ d a r, a < 6 → F_chase v h d a = some r → r < 6 ∧ r ≠ h ∧ v (6 + 4 * r + 0) = 1 := by
  intro d
  induction d with
  | zero => intro a r _ e; simp [F_chase] at e
  | succ d ih =>
    intro a r ha e
    rw [F_chase] at e
    split at e
    · cases e; exact ⟨ha, by assumption⟩
    · exact ih _ r (MI_he I ha).2 e
theorem F_low_ok {v : Nat → Int32} {h : Nat} : ∀ d a, a + d = 6 → (∃ j, a ≤ j ∧ j < 6 ∧ j ≠ h ∧ v (6 + 4 * j + 0) = 1) → F_low v h d a ≠ h ∧ v (6 + 4 * F_low v h d a + 0) = 1 := by
  intro d
  induction d with
  | zero => intro a ha ⟨j, h1, h2, _⟩; omega
  | succ d ih =>
    intro a ha ⟨j, h1, h2, h3, h4⟩
    rw [F_low]
    split
    · refine ih (a + 1) (by omega) ⟨j, ?_, h2, h3, h4⟩
      rcases Nat.lt_or_ge a j with q | q
      · omega
      · exfalso
        have e : a = j := by omega
        subst e
        rcases ‹a = h ∨ ¬ v (6 + 4 * a + 0) = 1› with q1 | q1
        · exact h3 q1
        · exact q1 h4
    · rename_i q
      exact ⟨fun z => q (Or.inl z), Decidable.byContradiction fun z => q (Or.inr z)⟩
theorem F_heir_ok {v : Nat → Int32} {h n : Nat} (I : MI v n) (hh : h < 6) (hx : ∃ j, j < 6 ∧ j ≠ h ∧ v (6 + 4 * j + 0) = 1) : F_heir v h < 6 ∧ F_heir v h ≠ h ∧ v (6 + 4 * F_heir v h + 0) = 1 := by
  unfold F_heir
  cases e : F_chase v h 6 (v (6 + 4 * h + 1)).toNatClampNeg with
  | some r => exact F_chase_lt I 6 _ r (MI_he I hh).2 e
  | none =>
    obtain ⟨j, h1, h2, h3⟩ := hx
    have hx : ∃ j, 0 ≤ j ∧ j < 6 ∧ j ≠ h ∧ v (6 + 4 * j + 0) = 1 := ⟨j, Nat.zero_le _, h1, h2, h3⟩
    exact ⟨F_low_lt 6 0 rfl hx, F_low_ok 6 0 rfl hx⟩
