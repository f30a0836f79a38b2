set_option maxRecDepth 100000
def B_frees (n h : Nat) (i : Nat) (s : mSt) : mSt :=
  let s129 := if (s.2 9 (30 + 8 * i + 0)) = (nI h) then (if (if (s.2 9 (30 + 8 * i + 6)) = (nI (h + 1)) then (1 : Int32) else (0 : Int32)) = 0 then (if (if (s.2 9 (30 + 8 * i + 3)) = (nI (h + 1)) then (1 : Int32) else (0 : Int32)) = 0 then s else ((setA (setA s 9 (30 + 8 * i + 3) 0) 9 (30 + 8 * i + 4) 0))) else ((setA (setA (if (if (s.2 9 (30 + 8 * i + 3)) = (nI (h + 1)) then (1 : Int32) else (0 : Int32)) = 0 then s else ((setA (setA s 9 (30 + 8 * i + 3) 0) 9 (30 + 8 * i + 4) 0))) 9 (30 + 8 * i + 6) 0) 9 (30 + 8 * i + 5) 0))) else s
  s129
set_option maxHeartbeats 4000000 in
theorem ml_frees {X : zX} {w : zWd} {m : Nat} {ad : Nat → Nat} {h0 : zH} {P : Option Value → zH → Prop} {PX : Nat → zH → Prop} (n h : Nat)  (s0 : mSt) (hv0 : ∀ i, i ≤ n → MI ((iterN (B_frees n h) s0 i).2 9) n) (E : zOK X w RX4 cX4_frees 5 1 21 [] none "frees") (kx : Z X w 5 (zQ X w P PX) (mS m ad h0 ((iterN (B_frees n h) s0 n))) 0 0 [(0, .ref m), (1, .int (nI h)), (2, .int (nI n))] 135 []) : ∀ d i, i + d = n → Z X w 5 (zQ X w P PX) (mS m ad h0 ((iterN (B_frees n h) s0 i))) 0 0 [(0, .ref m), (1, .int (nI h)), (2, .int (nI i))] 2 [] := by
  intro d
  induction d with
  | zero =>
    intro i hi
    have hi : i = n := by omega
    rw [hi]
    have hv := hv0 n (Nat.le_refl n)
    have hn12 := hv.2.1
    refine z_iload_n E dX4_frees_2 rfl 2 rfl ?_
    refine z_aload_n E dX4_frees_3 rfl 0 rfl ?_
    refine m_get E 9 (by decide) rfl q1679 rfl dX4_frees_4 ?_
    refine z_iconst (v := 0) E dX4_frees_7 (by decide) ?_
    refine m_ald E (j := 9) (q := 0) (by decide) (by show _ < 126; omega) (by omega) dX4_frees_8 ?_
    refine z_top (hv.1) ?_
    refine z_icmp_geN (a := n) (b := n) (tgt := 135) E (by omega) (by omega) dX4_frees_9 (by decide) (fun c9 => ?_) (fun c9 => absurd c9 (by omega))
    exact kx
  | succ d ih =>
    intro i hi
    have ih1 := ih (i + 1) (by omega)
    have hv := hv0 i (by omega)
    have hn12 := hv.2.1
    rw [iterN_s] at ih1
    generalize hs : iterN (B_frees n h) s0 i = s at ih1 hv ⊢
    refine z_iload_n E dX4_frees_2 rfl 2 rfl ?_
    refine z_aload_n E dX4_frees_3 rfl 0 rfl ?_
    refine m_get E 9 (by decide) rfl q1679 rfl dX4_frees_4 ?_
    refine z_iconst (v := 0) E dX4_frees_7 (by decide) ?_
    refine m_ald E (j := 9) (q := 0) (by decide) (by show _ < 126; omega) (by omega) dX4_frees_8 ?_
    refine z_top (hv.1) ?_
    refine z_icmp_geN (a := i) (b := n) (tgt := 135) E (by omega) (by omega) dX4_frees_9 (by decide) (fun c9 => absurd c9 (by omega)) (fun c9 => ?_)
    refine z_aload_n E dX4_frees_12 rfl 0 rfl ?_
    refine m_get E 9 (by decide) rfl q1679 rfl dX4_frees_13 ?_
    refine z_iload_n E dX4_frees_16 rfl 2 rfl ?_
    refine z_iconst (v := 0) E dX4_frees_17 (by decide) ?_
    refine z_callSi E (rest := [.ref (ad 9)]) (k' := 0) (n' := 0) cs_X4_in (mm_X4_in i 0) q1790 rfl rfl (Nat.le_of_ble_eq_true rfl) (Nat.le_of_ble_eq_true rfl) (Nat.le_of_ble_eq_true rfl) dX4_frees_18 (Nat.le_refl _) (Nat.le_refl _) ?_
    refine m_ald E (j := 9) (q := 30 + 8 * i + 0) (by decide) (by show _ < 126; omega) (by omega) dX4_frees_21 ?_
    refine z_iload_n E dX4_frees_22 rfl 1 rfl ?_
    have J23 : ∀ (j23_0 : mSt), j23_0 = (if (s.2 9 (30 + 8 * i + 0)) = (nI h) then (if (if (s.2 9 (30 + 8 * i + 6)) = (nI (h + 1)) then (1 : Int32) else (0 : Int32)) = 0 then (if (if (s.2 9 (30 + 8 * i + 3)) = (nI (h + 1)) then (1 : Int32) else (0 : Int32)) = 0 then s else ((setA (setA s 9 (30 + 8 * i + 3) 0) 9 (30 + 8 * i + 4) 0))) else ((setA (setA (if (if (s.2 9 (30 + 8 * i + 3)) = (nI (h + 1)) then (1 : Int32) else (0 : Int32)) = 0 then s else ((setA (setA s 9 (30 + 8 * i + 3) 0) 9 (30 + 8 * i + 4) 0))) 9 (30 + 8 * i + 6) 0) 9 (30 + 8 * i + 5) 0))) else s) → Z X w 5 (zQ X w P PX) (mS m ad h0 j23_0) 0 0 [(0, .ref m), (1, .int (nI h)), (2, .int (nI i))] 129 [] := by
      intro j23_0 ej23_0
      subst ej23_0
      generalize hs129 : (if (s.2 9 (30 + 8 * i + 0)) = (nI h) then (if (if (s.2 9 (30 + 8 * i + 6)) = (nI (h + 1)) then (1 : Int32) else (0 : Int32)) = 0 then (if (if (s.2 9 (30 + 8 * i + 3)) = (nI (h + 1)) then (1 : Int32) else (0 : Int32)) = 0 then s else ((setA (setA s 9 (30 + 8 * i + 3) 0) 9 (30 + 8 * i + 4) 0))) else ((setA (setA (if (if (s.2 9 (30 + 8 * i + 3)) = (nI (h + 1)) then (1 : Int32) else (0 : Int32)) = 0 then s else ((setA (setA s 9 (30 + 8 * i + 3) 0) 9 (30 + 8 * i + 4) 0))) 9 (30 + 8 * i + 6) 0) 9 (30 + 8 * i + 5) 0))) else s) = s129
      refine z_iinc (v := nI (i + 1)) (lv' := [(2, .int (nI (i + 1))), (0, .ref m), (1, .int (nI h))]) E dX4_frees_129 (j := 2) rfl (nI_add _ 1) (by decide) rfl ?_
      refine z_goto (tgt := 2) E dX4_frees_132 (by decide) ?_
      refine z_sub (lv' := [(0, .ref m), (1, .int (nI h)), (2, .int (nI (i + 1)))]) [1, 2, 0] rfl ?_
      subst hs129
      exact ih1
    refine z_icmp_eq (tgt := 29) E dX4_frees_23 (by decide) (fun c23 => ?_) (fun c23 => ?_)
    · refine z_aload_n E dX4_frees_29 rfl 0 rfl ?_
      refine m_get E 9 (by decide) rfl q1679 rfl dX4_frees_30 ?_
      refine z_iload_n E dX4_frees_33 rfl 2 rfl ?_
      refine z_iconst (v := 3) E dX4_frees_34 (by decide) ?_
      refine z_callSi E (rest := [.ref (ad 9)]) (k' := 0) (n' := 0) cs_X4_in (mm_X4_in i 3) q1790 rfl rfl (Nat.le_of_ble_eq_true rfl) (Nat.le_of_ble_eq_true rfl) (Nat.le_of_ble_eq_true rfl) dX4_frees_35 (Nat.le_refl _) (Nat.le_refl _) ?_
      refine m_ald E (j := 9) (q := 30 + 8 * i + 3) (by decide) (by show _ < 126; omega) (by omega) dX4_frees_38 ?_
      refine z_iload_n E dX4_frees_39 rfl 1 rfl ?_
      refine z_iconst (v := 1) E dX4_frees_40 (by decide) ?_
      refine z_iaddN (a := h) (b := 1) E dX4_frees_41 ?_
      have J42 : ∀ (j42_0 : Int32), j42_0 = (if (s.2 9 (30 + 8 * i + 3)) = (nI (h + 1)) then (1 : Int32) else (0 : Int32)) → Z X w 5 (zQ X w P PX) (mS m ad h0 s) 0 0 [(0, .ref m), (1, .int (nI h)), (2, .int (nI i))] 50 [.int j42_0] := by
        intro j42_0 ej42_0
        subst ej42_0
        refine z_istore_n (lv' := [(3, .int (if (s.2 9 (30 + 8 * i + 3)) = (nI (h + 1)) then (1 : Int32) else (0 : Int32))), (0, .ref m), (1, .int (nI h)), (2, .int (nI i))]) E dX4_frees_50 rfl (by decide) rfl ?_
        refine z_aload_n E dX4_frees_51 rfl 1 rfl ?_
        refine m_get E 9 (by decide) rfl q1679 rfl dX4_frees_52 ?_
        refine z_iload_n E dX4_frees_55 rfl 3 rfl ?_
        refine z_bipush (v := 6) E dX4_frees_56 (by decide) ?_
        refine z_callSi E (rest := [.ref (ad 9)]) (k' := 0) (n' := 0) cs_X4_in (mm_X4_in i 6) q1790 rfl rfl (Nat.le_of_ble_eq_true rfl) (Nat.le_of_ble_eq_true rfl) (Nat.le_of_ble_eq_true rfl) dX4_frees_58 (Nat.le_refl _) (Nat.le_refl _) ?_
        refine m_ald E (j := 9) (q := 30 + 8 * i + 6) (by decide) (by show _ < 126; omega) (by omega) dX4_frees_61 ?_
        refine z_iload_n E dX4_frees_62 rfl 2 rfl ?_
        refine z_iconst (v := 1) E dX4_frees_63 (by decide) ?_
        refine z_iaddN (a := h) (b := 1) E dX4_frees_64 ?_
        have J65 : ∀ (j65_0 : Int32), j65_0 = (if (s.2 9 (30 + 8 * i + 6)) = (nI (h + 1)) then (1 : Int32) else (0 : Int32)) → Z X w 5 (zQ X w P PX) (mS m ad h0 s) 0 0 [(0, .ref m), (1, .int (nI h)), (2, .int (nI i)), (3, .int (if (s.2 9 (30 + 8 * i + 3)) = (nI (h + 1)) then (1 : Int32) else (0 : Int32)))] 73 [.int j65_0] := by
          intro j65_0 ej65_0
          subst ej65_0
          refine z_istore (lv' := [(4, .int (if (s.2 9 (30 + 8 * i + 6)) = (nI (h + 1)) then (1 : Int32) else (0 : Int32))), (0, .ref m), (1, .int (nI h)), (2, .int (nI i)), (3, .int (if (s.2 9 (30 + 8 * i + 3)) = (nI (h + 1)) then (1 : Int32) else (0 : Int32)))]) E dX4_frees_73 (by decide) rfl ?_
          refine z_iload_n E dX4_frees_75 rfl 4 rfl ?_
          have J76 : ∀ (j76_0 : mSt), j76_0 = (if (if (s.2 9 (30 + 8 * i + 3)) = (nI (h + 1)) then (1 : Int32) else (0 : Int32)) = 0 then s else ((setA (setA s 9 (30 + 8 * i + 3) 0) 9 (30 + 8 * i + 4) 0))) → Z X w 5 (zQ X w P PX) (mS m ad h0 j76_0) 0 0 [(0, .ref m), (1, .int (nI h)), (2, .int (nI i)), (3, .int (if (s.2 9 (30 + 8 * i + 3)) = (nI (h + 1)) then (1 : Int32) else (0 : Int32))), (4, .int (if (s.2 9 (30 + 8 * i + 6)) = (nI (h + 1)) then (1 : Int32) else (0 : Int32)))] 101 [] := by
            intro j76_0 ej76_0
            subst ej76_0
            generalize hs101 : (if (if (s.2 9 (30 + 8 * i + 3)) = (nI (h + 1)) then (1 : Int32) else (0 : Int32)) = 0 then s else ((setA (setA s 9 (30 + 8 * i + 3) 0) 9 (30 + 8 * i + 4) 0))) = s101
            refine z_iload E dX4_frees_101 4 rfl ?_
            have J103 : ∀ (j103_0 : mSt), j103_0 = (if (if (s.2 9 (30 + 8 * i + 6)) = (nI (h + 1)) then (1 : Int32) else (0 : Int32)) = 0 then s101 else ((setA (setA s101 9 (30 + 8 * i + 6) 0) 9 (30 + 8 * i + 5) 0))) → Z X w 5 (zQ X w P PX) (mS m ad h0 j103_0) 0 0 [(0, .ref m), (1, .int (nI h)), (2, .int (nI i)), (3, .int (if (s.2 9 (30 + 8 * i + 3)) = (nI (h + 1)) then (1 : Int32) else (0 : Int32))), (4, .int (if (s.2 9 (30 + 8 * i + 6)) = (nI (h + 1)) then (1 : Int32) else (0 : Int32)))] 129 [] := by
              intro j103_0 ej103_0
              subst ej103_0
              subst hs101
              refine z_sub (lv' := [(0, .ref m), (1, .int (nI h)), (2, .int (nI i))]) [0, 1, 2] rfl ?_
              exact J23 _ ((if_pos c23).symm)
            refine z_if_eq (tgt := 129) E dX4_frees_103 (by decide) (fun c103 => ?_) (fun c103 => ?_)
            · exact J103 _ ((if_pos c103).symm)
            · refine z_aload_n E dX4_frees_106 rfl 0 rfl ?_
              refine m_get E 9 (by decide) rfl q1679 rfl dX4_frees_107 ?_
              refine z_iload_n E dX4_frees_110 rfl 2 rfl ?_
              refine z_bipush (v := 6) E dX4_frees_111 (by decide) ?_
              refine z_callSi E (rest := [.ref (ad 9)]) (k' := 0) (n' := 0) cs_X4_in (mm_X4_in i 6) q1790 rfl rfl (Nat.le_of_ble_eq_true rfl) (Nat.le_of_ble_eq_true rfl) (Nat.le_of_ble_eq_true rfl) dX4_frees_113 (Nat.le_refl _) (Nat.le_refl _) ?_
              refine z_iconst (v := 0) E dX4_frees_116 (by decide) ?_
              refine m_ast E (j := 9) (q := 30 + 8 * i + 6) (by decide) (by show _ < 126; omega) (by omega) dX4_frees_117 ?_
              generalize hs117 : setA s101 9 (30 + 8 * i + 6) 0 = s117
              refine z_aload_n E dX4_frees_118 rfl 0 rfl ?_
              refine m_get E 9 (by decide) rfl q1679 rfl dX4_frees_119 ?_
              refine z_iload_n E dX4_frees_122 rfl 2 rfl ?_
              refine z_iconst (v := 5) E dX4_frees_123 (by decide) ?_
              refine z_callSi E (rest := [.ref (ad 9)]) (k' := 0) (n' := 0) cs_X4_in (mm_X4_in i 5) q1790 rfl rfl (Nat.le_of_ble_eq_true rfl) (Nat.le_of_ble_eq_true rfl) (Nat.le_of_ble_eq_true rfl) dX4_frees_124 (Nat.le_refl _) (Nat.le_refl _) ?_
              refine z_iconst (v := 0) E dX4_frees_127 (by decide) ?_
              refine m_ast E (j := 9) (q := 30 + 8 * i + 5) (by decide) (by show _ < 126; omega) (by omega) dX4_frees_128 ?_
              generalize hs128 : setA s117 9 (30 + 8 * i + 5) 0 = s128
              subst hs128 hs117
              exact J103 _ ((if_neg c103).symm)
          refine z_if_eq (tgt := 101) E dX4_frees_76 (by decide) (fun c76 => ?_) (fun c76 => ?_)
          · refine z_sub (lv' := [(0, .ref m), (1, .int (nI h)), (2, .int (nI i)), (3, .int (if (s.2 9 (30 + 8 * i + 3)) = (nI (h + 1)) then (1 : Int32) else (0 : Int32))), (4, .int (if (s.2 9 (30 + 8 * i + 6)) = (nI (h + 1)) then (1 : Int32) else (0 : Int32)))]) [1, 2, 3, 4, 0] rfl ?_
            exact J76 _ ((if_pos c76).symm)
          · refine z_aload_n E dX4_frees_79 rfl 1 rfl ?_
            refine m_get E 9 (by decide) rfl q1679 rfl dX4_frees_80 ?_
            refine z_iload_n E dX4_frees_83 rfl 3 rfl ?_
            refine z_iconst (v := 3) E dX4_frees_84 (by decide) ?_
            refine z_callSi E (rest := [.ref (ad 9)]) (k' := 0) (n' := 0) cs_X4_in (mm_X4_in i 3) q1790 rfl rfl (Nat.le_of_ble_eq_true rfl) (Nat.le_of_ble_eq_true rfl) (Nat.le_of_ble_eq_true rfl) dX4_frees_85 (Nat.le_refl _) (Nat.le_refl _) ?_
            refine z_iconst (v := 0) E dX4_frees_88 (by decide) ?_
            refine m_ast E (j := 9) (q := 30 + 8 * i + 3) (by decide) (by show _ < 126; omega) (by omega) dX4_frees_89 ?_
            generalize hs89 : setA s 9 (30 + 8 * i + 3) 0 = s89
            refine z_aload_n E dX4_frees_90 rfl 1 rfl ?_
            refine m_get E 9 (by decide) rfl q1679 rfl dX4_frees_91 ?_
            refine z_iload_n E dX4_frees_94 rfl 3 rfl ?_
            refine z_iconst (v := 4) E dX4_frees_95 (by decide) ?_
            refine z_callSi E (rest := [.ref (ad 9)]) (k' := 0) (n' := 0) cs_X4_in (mm_X4_in i 4) q1790 rfl rfl (Nat.le_of_ble_eq_true rfl) (Nat.le_of_ble_eq_true rfl) (Nat.le_of_ble_eq_true rfl) dX4_frees_96 (Nat.le_refl _) (Nat.le_refl _) ?_
            refine z_iconst (v := 0) E dX4_frees_99 (by decide) ?_
            refine m_ast E (j := 9) (q := 30 + 8 * i + 4) (by decide) (by show _ < 126; omega) (by omega) dX4_frees_100 ?_
            generalize hs100 : setA s89 9 (30 + 8 * i + 4) 0 = s100
            subst hs100 hs89
            refine z_sub (lv' := [(0, .ref m), (1, .int (nI h)), (2, .int (nI i)), (3, .int (if (s.2 9 (30 + 8 * i + 3)) = (nI (h + 1)) then (1 : Int32) else (0 : Int32))), (4, .int (if (s.2 9 (30 + 8 * i + 6)) = (nI (h + 1)) then (1 : Int32) else (0 : Int32)))]) [1, 2, 3, 4, 0] rfl ?_
            exact J76 _ ((if_neg c76).symm)
        refine z_icmp_ne (tgt := 72) E dX4_frees_65 (by decide) (fun c65 => ?_) (fun c65 => ?_)
        · refine z_iconst (v := 0) E dX4_frees_72 (by decide) ?_
          refine z_sub (lv' := [(0, .ref m), (1, .int (nI h)), (2, .int (nI i)), (3, .int (if (s.2 9 (30 + 8 * i + 3)) = (nI (h + 1)) then (1 : Int32) else (0 : Int32)))]) [1, 2, 3, 0] rfl ?_
          exact J65 _ ((if_neg c65).symm)
        · refine z_iconst (v := 1) E dX4_frees_68 (by decide) ?_
          refine z_goto (tgt := 73) E dX4_frees_69 (by decide) ?_
          refine z_sub (lv' := [(0, .ref m), (1, .int (nI h)), (2, .int (nI i)), (3, .int (if (s.2 9 (30 + 8 * i + 3)) = (nI (h + 1)) then (1 : Int32) else (0 : Int32)))]) [1, 2, 3, 0] rfl ?_
          exact J65 _ ((if_pos c65).symm)
      refine z_icmp_ne (tgt := 49) E dX4_frees_42 (by decide) (fun c42 => ?_) (fun c42 => ?_)
      · refine z_iconst (v := 0) E dX4_frees_49 (by decide) ?_
        exact J42 _ ((if_neg c42).symm)
      · refine z_iconst (v := 1) E dX4_frees_45 (by decide) ?_
        refine z_goto (tgt := 50) E dX4_frees_46 (by decide) ?_
        exact J42 _ ((if_pos c42).symm)
    · refine z_goto (tgt := 129) E dX4_frees_26 (by decide) ?_
      exact J23 _ ((if_neg c23).symm)
theorem iv_frees {n h : Nat} {s0 : mSt} (I : MI (s0.2 9) n) : ∀ i, MI ((iterN (B_frees n h) s0 i).2 9) n := by
  intro i
  induction i with
  | zero => exact I
  | succ i ih =>
    rw [iterN_s]
    generalize iterN (B_frees n h) s0 i = s at ih ⊢
    unfold B_frees
    dsimp only
    have K : ∀ {v : Nat → Int32} {q : Nat} {x : Int32}, MI v n → (q ≠ 0 ∧ (∀ k, k < 6 → 6 + 4 * k + 1 ≠ q) ∧ (∀ s, s < n → 30 + 8 * s + 0 ≠ q) ∧ (∀ k, k < 6 → 6 + 4 * k + 0 ≠ q)) → MI (upd v q x) n := fun I h => MI_k I h.1 h.2.1 h.2.2.1 h.2.2.2
    repeat' split
    all_goals first | exact ih | exact K ih ⟨by omega, fun _ _ => by omega, fun _ _ => by omega, fun _ _ => by omega⟩ | exact K (K ih ⟨by omega, fun _ _ => by omega, fun _ _ => by omega, fun _ _ => by omega⟩) ⟨by omega, fun _ _ => by omega, fun _ _ => by omega, fun _ _ => by omega⟩ | exact K (K (K ih ⟨by omega, fun _ _ => by omega, fun _ _ => by omega, fun _ _ => by omega⟩) ⟨by omega, fun _ _ => by omega, fun _ _ => by omega, fun _ _ => by omega⟩) ⟨by omega, fun _ _ => by omega, fun _ _ => by omega, fun _ _ => by omega⟩ | exact K (K (K (K ih ⟨by omega, fun _ _ => by omega, fun _ _ => by omega, fun _ _ => by omega⟩) ⟨by omega, fun _ _ => by omega, fun _ _ => by omega, fun _ _ => by omega⟩) ⟨by omega, fun _ _ => by omega, fun _ _ => by omega, fun _ _ => by omega⟩) ⟨by omega, fun _ _ => by omega, fun _ _ => by omega, fun _ _ => by omega⟩
theorem MI_K {v : Nat → Int32} {n q : Nat} {x : Int32} (I : MI v n) (h : q ≠ 0 ∧ (∀ k, k < 6 → 6 + 4 * k + 1 ≠ q) ∧ (∀ s, s < n → 30 + 8 * s + 0 ≠ q) ∧ (∀ k, k < 6 → 6 + 4 * k + 0 ≠ q)) : MI (upd v q x) n := MI_k I h.1 h.2.1 h.2.2.1 h.2.2.2
theorem cv_X4_frees : zCV yX4_frees RX4 cX4_frees 5 none 1 := ⟨⟨q1924, qs63, q95, q1925⟩, by decide +kernel⟩
def M_frees (σ : mSt) (n h : Nat) : mSt :=
  let s2 := (iterN (B_frees n h) σ n)
  s2
set_option maxHeartbeats 4000000 in
theorem mb_X4_frees {X : zX} {w : zWd} {m : Nat} {ad : Nat → Nat} {h0 : zH} {σ : mSt} {P : Option Value → zH → Prop} {PX : Nat → zH → Prop} (n h : Nat) (I : MI (σ.2 9) n) (E : zOK X w RX4 cX4_frees 5 1 21 [] none "frees") (hP : ∀ s9 h9, s9 = M_frees σ n h → mS m ad h0 s9 h9 → P none h9) : Z X w 5 (zQ X w P PX) (mS m ad h0 σ) 0 0 [(0, .ref m), (1, .int (nI h))] 0 [] := by
  have hn12 := I.2.1
  refine z_iconst (v := 0) E dX4_frees_0 (by decide) ?_
  refine z_istore_n (lv' := [(2, .int 0), (0, .ref m), (1, .int (nI h))]) E dX4_frees_1 rfl (by decide) rfl ?_
  refine z_sub (lv' := [(0, .ref m), (1, .int (nI h)), (2, .int 0)]) [1, 2, 0] rfl ?_
  refine ml_frees n h  σ (fun i _ => iv_frees I i) E ?_ n 0 (by omega)
  generalize hs2 : (iterN (B_frees n h) σ n) = s2
  exact z_vret E dX4_frees_135 (fun h9 q9 => hP _ h9 (by subst hs2; unfold M_frees; rfl) q9)
theorem mm_X4_frees {l : Launch} {w : zWd} {m : Nat} {ad : Nat → Nat} {h0 : zH} {σ : mSt} (n h : Nat) (I : MI (σ.2 9) n) : ZM l w yX4_frees (ws_ yX4_frees cX4_frees 5 none) 1 21 0 0 [.ref m, .int (nI h)] (mS m ad h0 σ) (zrv (mS m ad h0 (M_frees σ n h))) zno :=
  zm_of (by decide) rfl (Nat.le_of_ble_eq_true rfl) (fun X _ E => mb_X4_frees n h I E (fun s h e q => by subst e; exact ⟨rfl, q⟩))
def B_closes (n h t : Nat) (i : Nat) (s : mSt) : mSt :=
  let s172 := if (s.2 9 (30 + 8 * i + 3)) = (nI (h + 1)) then (setA s 9 (30 + 8 * i + 3) (nI (t + 1))) else s
  let s212 := if (s172.2 9 (30 + 8 * i + 6)) = (nI (h + 1)) then (setA (setA s172 9 (30 + 8 * i + 6) 0) 9 (30 + 8 * i + 5) 0) else s172
  s212
set_option maxHeartbeats 4000000 in
theorem ml_closes {X : zX} {w : zWd} {m : Nat} {ad : Nat → Nat} {h0 : zH} {P : Option Value → zH → Prop} {PX : Nat → zH → Prop} (n h t : Nat)  (s0 : mSt) (hv0 : ∀ i, i ≤ n → MI ((iterN (B_closes n h t) s0 i).2 9) n) (E : zOK X w RX4 cX4_closes 4 3 69 [] (some .int) "closes") (kx : Z X w 4 (zQ X w P PX) (mS m ad h0 ((iterN (B_closes n h t) s0 n))) 0 0 [(0, .ref m), (1, .int (nI h)), (2, .int (nI t)), (3, .int (nI n))] 218 []) : ∀ d i, i + d = n → Z X w 4 (zQ X w P PX) (mS m ad h0 ((iterN (B_closes n h t) s0 i))) 0 0 [(0, .ref m), (1, .int (nI h)), (2, .int (nI t)), (3, .int (nI i))] 133 [] := by
  intro d
  induction d with
  | zero =>
    intro i hi
    have hi : i = n := by omega
    rw [hi]
    have hv := hv0 n (Nat.le_refl n)
    have hn12 := hv.2.1
    refine z_iload_n E dX4_closes_133 rfl 3 rfl ?_
    refine z_aload_n E dX4_closes_134 rfl 0 rfl ?_
    refine m_get E 9 (by decide) rfl q1679 rfl dX4_closes_135 ?_
    refine z_iconst (v := 0) E dX4_closes_138 (by decide) ?_
    refine m_ald E (j := 9) (q := 0) (by decide) (by show _ < 126; omega) (by omega) dX4_closes_139 ?_
    refine z_top (hv.1) ?_
    refine z_icmp_geN (a := n) (b := n) (tgt := 218) E (by omega) (by omega) dX4_closes_140 (by decide) (fun c140 => ?_) (fun c140 => absurd c140 (by omega))
    exact kx
  | succ d ih =>
    intro i hi
    have ih1 := ih (i + 1) (by omega)
    have hv := hv0 i (by omega)
    have hn12 := hv.2.1
    rw [iterN_s] at ih1
    generalize hs : iterN (B_closes n h t) s0 i = s at ih1 hv ⊢
    refine z_iload_n E dX4_closes_133 rfl 3 rfl ?_
    refine z_aload_n E dX4_closes_134 rfl 0 rfl ?_
    refine m_get E 9 (by decide) rfl q1679 rfl dX4_closes_135 ?_
    refine z_iconst (v := 0) E dX4_closes_138 (by decide) ?_
    refine m_ald E (j := 9) (q := 0) (by decide) (by show _ < 126; omega) (by omega) dX4_closes_139 ?_
    refine z_top (hv.1) ?_
    refine z_icmp_geN (a := i) (b := n) (tgt := 218) E (by omega) (by omega) dX4_closes_140 (by decide) (fun c140 => absurd c140 (by omega)) (fun c140 => ?_)
    refine z_aload_n E dX4_closes_143 rfl 0 rfl ?_
    refine m_get E 9 (by decide) rfl q1679 rfl dX4_closes_144 ?_
    refine z_iload_n E dX4_closes_147 rfl 3 rfl ?_
    refine z_iconst (v := 3) E dX4_closes_148 (by decide) ?_
    refine z_callSi E (rest := [.ref (ad 9)]) (k' := 0) (n' := 0) cs_X4_in (mm_X4_in i 3) q1790 rfl rfl (Nat.le_of_ble_eq_true rfl) (Nat.le_of_ble_eq_true rfl) (Nat.le_of_ble_eq_true rfl) dX4_closes_149 (Nat.le_refl _) (Nat.le_refl _) ?_
    refine m_ald E (j := 9) (q := 30 + 8 * i + 3) (by decide) (by show _ < 126; omega) (by omega) dX4_closes_152 ?_
    refine z_iload_n E dX4_closes_153 rfl 1 rfl ?_
    refine z_iconst (v := 1) E dX4_closes_154 (by decide) ?_
    refine z_iaddN (a := h) (b := 1) E dX4_closes_155 ?_
    have J156 : ∀ (j156_0 : mSt), j156_0 = (if (s.2 9 (30 + 8 * i + 3)) = (nI (h + 1)) then (setA s 9 (30 + 8 * i + 3) (nI (t + 1))) else s) → Z X w 4 (zQ X w P PX) (mS m ad h0 j156_0) 0 0 [(0, .ref m), (1, .int (nI h)), (2, .int (nI t)), (3, .int (nI i))] 172 [] := by
      intro j156_0 ej156_0
      subst ej156_0
      generalize hs172 : (if (s.2 9 (30 + 8 * i + 3)) = (nI (h + 1)) then (setA s 9 (30 + 8 * i + 3) (nI (t + 1))) else s) = s172
      refine z_aload_n E dX4_closes_172 rfl 0 rfl ?_
      refine m_get E 9 (by decide) rfl q1679 rfl dX4_closes_173 ?_
      refine z_iload_n E dX4_closes_176 rfl 3 rfl ?_
      refine z_bipush (v := 6) E dX4_closes_177 (by decide) ?_
      refine z_callSi E (rest := [.ref (ad 9)]) (k' := 0) (n' := 0) cs_X4_in (mm_X4_in i 6) q1790 rfl rfl (Nat.le_of_ble_eq_true rfl) (Nat.le_of_ble_eq_true rfl) (Nat.le_of_ble_eq_true rfl) dX4_closes_179 (Nat.le_refl _) (Nat.le_refl _) ?_
      refine m_ald E (j := 9) (q := 30 + 8 * i + 6) (by decide) (by show _ < 126; omega) (by omega) dX4_closes_182 ?_
      refine z_iload_n E dX4_closes_183 rfl 1 rfl ?_
      refine z_iconst (v := 1) E dX4_closes_184 (by decide) ?_
      refine z_iaddN (a := h) (b := 1) E dX4_closes_185 ?_
      have J186 : ∀ (j186_0 : mSt), j186_0 = (if (s172.2 9 (30 + 8 * i + 6)) = (nI (h + 1)) then (setA (setA s172 9 (30 + 8 * i + 6) 0) 9 (30 + 8 * i + 5) 0) else s172) → Z X w 4 (zQ X w P PX) (mS m ad h0 j186_0) 0 0 [(0, .ref m), (1, .int (nI h)), (2, .int (nI t)), (3, .int (nI i))] 212 [] := by
        intro j186_0 ej186_0
        subst ej186_0
        generalize hs212 : (if (s172.2 9 (30 + 8 * i + 6)) = (nI (h + 1)) then (setA (setA s172 9 (30 + 8 * i + 6) 0) 9 (30 + 8 * i + 5) 0) else s172) = s212
        refine z_iinc (v := nI (i + 1)) (lv' := [(3, .int (nI (i + 1))), (0, .ref m), (1, .int (nI h)), (2, .int (nI t))]) E dX4_closes_212 (j := 3) rfl (nI_add _ 1) (by decide) rfl ?_
        refine z_goto (tgt := 133) E dX4_closes_215 (by decide) ?_
        refine z_sub (lv' := [(0, .ref m), (1, .int (nI h)), (2, .int (nI t)), (3, .int (nI (i + 1)))]) [1, 2, 3, 0] rfl ?_
        subst hs212 hs172
        exact ih1
      refine z_icmp_ne (tgt := 212) E dX4_closes_186 (by decide) (fun c186 => ?_) (fun c186 => ?_)
      · exact J186 _ ((if_neg c186).symm)
      · refine z_aload_n E dX4_closes_189 rfl 0 rfl ?_
        refine m_get E 9 (by decide) rfl q1679 rfl dX4_closes_190 ?_
        refine z_iload_n E dX4_closes_193 rfl 3 rfl ?_
        refine z_bipush (v := 6) E dX4_closes_194 (by decide) ?_
        refine z_callSi E (rest := [.ref (ad 9)]) (k' := 0) (n' := 0) cs_X4_in (mm_X4_in i 6) q1790 rfl rfl (Nat.le_of_ble_eq_true rfl) (Nat.le_of_ble_eq_true rfl) (Nat.le_of_ble_eq_true rfl) dX4_closes_196 (Nat.le_refl _) (Nat.le_refl _) ?_
        refine z_iconst (v := 0) E dX4_closes_199 (by decide) ?_
        refine m_ast E (j := 9) (q := 30 + 8 * i + 6) (by decide) (by show _ < 126; omega) (by omega) dX4_closes_200 ?_
        generalize hs200 : setA s172 9 (30 + 8 * i + 6) 0 = s200
        refine z_aload_n E dX4_closes_201 rfl 0 rfl ?_
        refine m_get E 9 (by decide) rfl q1679 rfl dX4_closes_202 ?_
        refine z_iload_n E dX4_closes_205 rfl 3 rfl ?_
        refine z_iconst (v := 5) E dX4_closes_206 (by decide) ?_
        refine z_callSi E (rest := [.ref (ad 9)]) (k' := 0) (n' := 0) cs_X4_in (mm_X4_in i 5) q1790 rfl rfl (Nat.le_of_ble_eq_true rfl) (Nat.le_of_ble_eq_true rfl) (Nat.le_of_ble_eq_true rfl) dX4_closes_207 (Nat.le_refl _) (Nat.le_refl _) ?_
        refine z_iconst (v := 0) E dX4_closes_210 (by decide) ?_
        refine m_ast E (j := 9) (q := 30 + 8 * i + 5) (by decide) (by show _ < 126; omega) (by omega) dX4_closes_211 ?_
        generalize hs211 : setA s200 9 (30 + 8 * i + 5) 0 = s211
        subst hs211 hs200
        exact J186 _ ((if_pos c186).symm)
    refine z_icmp_ne (tgt := 172) E dX4_closes_156 (by decide) (fun c156 => ?_) (fun c156 => ?_)
    · exact J156 _ ((if_neg c156).symm)
    · refine z_aload_n E dX4_closes_159 rfl 0 rfl ?_
      refine m_get E 9 (by decide) rfl q1679 rfl dX4_closes_160 ?_
      refine z_iload_n E dX4_closes_163 rfl 3 rfl ?_
      refine z_iconst (v := 3) E dX4_closes_164 (by decide) ?_
      refine z_callSi E (rest := [.ref (ad 9)]) (k' := 0) (n' := 0) cs_X4_in (mm_X4_in i 3) q1790 rfl rfl (Nat.le_of_ble_eq_true rfl) (Nat.le_of_ble_eq_true rfl) (Nat.le_of_ble_eq_true rfl) dX4_closes_165 (Nat.le_refl _) (Nat.le_refl _) ?_
      refine z_iload_n E dX4_closes_168 rfl 2 rfl ?_
      refine z_iconst (v := 1) E dX4_closes_169 (by decide) ?_
      refine z_iaddN (a := t) (b := 1) E dX4_closes_170 ?_
      refine m_ast E (j := 9) (q := 30 + 8 * i + 3) (by decide) (by show _ < 126; omega) (by omega) dX4_closes_171 ?_
      generalize hs171 : setA s 9 (30 + 8 * i + 3) (nI (t + 1)) = s171
      subst hs171
      exact J156 _ ((if_pos c156).symm)
theorem iv_closes {n h t : Nat} {s0 : mSt} (I : MI (s0.2 9) n) : ∀ i, MI ((iterN (B_closes n h t) s0 i).2 9) n := by
  intro i
  induction i with
  | zero => exact I
  | succ i ih =>
    rw [iterN_s]
    generalize iterN (B_closes n h t) s0 i = s at ih ⊢
    unfold B_closes
    dsimp only
    repeat' split
    all_goals first | exact ih | exact (MI_K ih ⟨by omega, fun _ _ => by omega, fun _ _ => by omega, fun _ _ => by omega⟩) | exact (MI_K (MI_K ih ⟨by omega, fun _ _ => by omega, fun _ _ => by omega, fun _ _ => by omega⟩) ⟨by omega, fun _ _ => by omega, fun _ _ => by omega, fun _ _ => by omega⟩) | exact (MI_K (MI_K (MI_K ih ⟨by omega, fun _ _ => by omega, fun _ _ => by omega, fun _ _ => by omega⟩) ⟨by omega, fun _ _ => by omega, fun _ _ => by omega, fun _ _ => by omega⟩) ⟨by omega, fun _ _ => by omega, fun _ _ => by omega, fun _ _ => by omega⟩) | exact (MI_K (MI_K (MI_K (MI_K ih ⟨by omega, fun _ _ => by omega, fun _ _ => by omega, fun _ _ => by omega⟩) ⟨by omega, fun _ _ => by omega, fun _ _ => by omega, fun _ _ => by omega⟩) ⟨by omega, fun _ _ => by omega, fun _ _ => by omega, fun _ _ => by omega⟩) ⟨by omega, fun _ _ => by omega, fun _ _ => by omega, fun _ _ => by omega⟩)
theorem opens_two {σ : mSt} {n a : Nat} (I : MI (σ.2 9) n) (ha : a < 6) (c1 : ¬ M_isOpen σ a = 0) (c2 : ¬ M_opens σ = 1) : ∃ j, j < 6 ∧ j ≠ a ∧ σ.2 9 (6 + 4 * j + 0) = 1 := by
  have h1 := isOpen_1.mp c1
  apply Decidable.byContradiction
  intro hn
  have h0 : ∀ j, j < 6 → j ≠ a → σ.2 9 (6 + 4 * j + 0) = 0 := fun j hj hja => (I.2.2.2.2 j hj).resolve_right (fun z => hn ⟨j, hj, hja, z⟩)
  apply c2
  show iterN (B_opens σ) 0 6 = 1
  simp only [iterN, B_opens]
  have e : ∀ j, j < 6 → σ.2 9 (6 + 4 * j + 0) = if j = a then 1 else 0 := fun j hj => by
    split
    · rename_i z; rw [z]; exact h1
    · rename_i z; exact h0 j hj z
  rw [e 0 (by omega), e 1 (by omega), e 2 (by omega), e 3 (by omega), e 4 (by omega), e 5 (by omega)]
  have : a = 0 ∨ a = 1 ∨ a = 2 ∨ a = 3 ∨ a = 4 ∨ a = 5 := by omega
  rcases this with rfl | rfl | rfl | rfl | rfl | rfl <;> decide
theorem MI_open0 {v : Nat → Int32} {n a : Nat} (I : MI v n) (ha : a < 6) : MI (upd v (6 + 4 * a + 0) 0) n := by
  obtain ⟨h1, b, c, d, e⟩ := I
  refine ⟨by rw [pk_un (by omega)]; exact h1, b, fun k hk => ?_, fun s hs => ?_, fun k hk => ?_⟩
  · rw [pk_un (by omega)]; exact c k hk
  · rw [pk_un (by omega)]; exact d s hs
  · by_cases z : k = a
    · subst z; exact Or.inl pk_us
    · rw [pk_un (by omega)]; exact e k hk
theorem MI_n {v : Nat → Int32} {n : Nat} (I : MI v n) : (v 0).toNatClampNeg = n := by rw [I.1]; exact nI_clamp (Nat.lt_of_le_of_lt I.2.1 (by decide))
theorem F_inh_I {h t : Nat} (ht : t < 6) : ∀ d σ s n k, s + d = n → MI (σ.2 9) n → ∃ n', MI ((F_inh h t d σ s n k).1.2 9) n' := by
  intro d
  induction d with
  | zero => intro σ s n k _ I; exact ⟨n, I⟩
  | succ d ih =>
    intro σ s n k hs I
    have hn12 := I.2.1
    rw [F_inh]
    split
    · split
      · exact ih _ s (n - 1) (k + 1) (by omega) (I_goes (MI_k I (by omega) (fun _ _ => by omega) (fun _ _ => by omega) (fun _ _ => by omega)) (by omega))
      · exact ih _ (s + 1) n k (by omega) (MI_of_set I (by omega) ht)
    · exact ih σ (s + 1) n k (by omega) I
theorem F_inh_I' {h t n : Nat} {σ : mSt} (ht : t < 6) (I : MI (σ.2 9) n) : MI ((F_inh h t n σ 0 n 0).1.2 9) ((F_inh h t n σ 0 n 0).1.2 9 0).toNatClampNeg := by
  obtain ⟨n', h⟩ := F_inh_I (h := h) ht n σ 0 n 0 (by omega) I
  rw [MI_n h]; exact h
theorem cv_X4_closes : zCV yX4_closes RX4 cX4_closes 4 (some .int) 1 := ⟨⟨q1908, qs59, q95, q1909⟩, by decide +kernel⟩
def M_closes (σ : mSt) (n : Nat) (h : Int32) : Int32 × mSt :=
  if (M_isHouse h) = 0 then
    let s11 := (M_fail σ (-1011)).2
    ((M_fail σ (-1011)).1, s11)
  else
    let k1 := h.toNatClampNeg
    if (M_isOpen σ k1) = 0 then
      let s26 := (M_refuses σ 2 (nI k1)).2
      ((M_refuses σ 2 (nI k1)).1, s26)
    else
      if (M_opens σ) = 1 then
        let s42 := (M_refuses σ 15 (nI k1)).2
        ((M_refuses σ 15 (nI k1)).1, s42)
      else
        let s62 := setA σ 9 (6 + 4 * k1 + 0) 0
        let s85 := setA s62 9 (6 + 4 * (F_heir (σ.2 9) k1) + 2) ((s62.2 9 (6 + 4 * (F_heir (σ.2 9) k1) + 2)) + (s62.2 9 (6 + 4 * k1 + 2)))
        let s108 := setA s85 9 (6 + 4 * (F_heir (σ.2 9) k1) + 3) ((s85.2 9 (6 + 4 * (F_heir (σ.2 9) k1) + 3)) + (s85.2 9 (6 + 4 * k1 + 3)))
        let s119 := setA s108 9 (6 + 4 * k1 + 2) 0
        let s130 := setA s119 9 (6 + 4 * k1 + 3) 0
        let s133 := (iterN (B_closes n k1 (F_heir (σ.2 9) k1)) s130 n)
        let s222 := (F_inh k1 (F_heir (σ.2 9) k1) n s133 0 n 0).1
        let s225 := setF s222 16 (nI ((F_inh k1 (F_heir (σ.2 9) k1) n s133 0 n 0).2))
        let n5 := (s222.2 9 0).toNatClampNeg
        let s230 := M_frees s225 n5 (F_heir (σ.2 9) k1)
        (nI (F_heir (σ.2 9) k1), s230)
set_option maxHeartbeats 4000000 in
theorem mb_X4_closes {X : zX} {w : zWd} {m : Nat} {ad : Nat → Nat} {h0 : zH} {σ : mSt} {P : Option Value → zH → Prop} {PX : Nat → zH → Prop} (n : Nat) (h : Int32) (I : MI (σ.2 9) n) (E : zOK X w RX4 cX4_closes 4 3 69 [] (some .int) "closes") (hP : ∀ r9 s9 h9, (r9, s9) = M_closes σ n h → mS m ad h0 s9 h9 → P (some (.int r9)) h9) : Z X w 4 (zQ X w P PX) (mS m ad h0 σ) 0 0 [(0, .ref m), (1, .int h)] 0 [] := by
  have hn12 := I.2.1
  refine z_iload_n E dX4_closes_0 rfl 1 rfl ?_
  refine z_callSi E (rest := []) (k' := 0) (n' := 0) cs_X4_isHouse (mm_X4_isHouse h) q1761 rfl rfl (Nat.le_of_ble_eq_true rfl) (Nat.le_of_ble_eq_true rfl) (Nat.le_of_ble_eq_true rfl) dX4_closes_1 (Nat.le_refl _) (Nat.le_refl _) ?_
  refine z_if_ne (tgt := 15) E dX4_closes_4 (by decide) (fun c4 => ?_) (fun c4 => ?_)
  · have hk1p := zHouse_e c4
    generalize hk1 : h.toNatClampNeg = k1 at hk1p ⊢
    have hk1l := hk1p.2
    rw [hk1p.1]
    refine z_aload_n E dX4_closes_15 rfl 0 rfl ?_
    refine z_iload_n E dX4_closes_16 rfl 1 rfl ?_
    refine z_callVi E (rest := []) (k' := 0) (n' := 0) cv_X4_isOpen (mm_X4_isOpen (σ := σ) k1 (by omega)) q1774 rfl mS_o rfl rfl (Nat.le_of_ble_eq_true rfl) (Nat.le_of_ble_eq_true rfl) (Nat.le_of_ble_eq_true rfl) dX4_closes_17 (Nat.le_refl _) (Nat.le_refl _) ?_
    refine z_if_ne (tgt := 30) E dX4_closes_20 (by decide) (fun c20 => ?_) (fun c20 => ?_)
    · refine z_aload_n E dX4_closes_30 rfl 0 rfl ?_
      refine z_callVi E (rest := []) (k' := 0) (n' := 0) cv_X4_opens (mm_X4_opens (σ := σ) ) q1910 rfl mS_o rfl rfl (Nat.le_of_ble_eq_true rfl) (Nat.le_of_ble_eq_true rfl) (Nat.le_of_ble_eq_true rfl) dX4_closes_31 (Nat.le_refl _) (Nat.le_refl _) ?_
      refine z_iconst (v := 1) E dX4_closes_34 (by decide) ?_
      refine z_icmp_ne (tgt := 46) E dX4_closes_35 (by decide) (fun c35 => ?_) (fun c35 => ?_)
      · have hx := opens_two I hk1l c20 c35
        refine z_aload_n E dX4_closes_46 rfl 0 rfl ?_
        refine z_iload_n E dX4_closes_47 rfl 1 rfl ?_
        refine z_callVi E (rest := []) (k' := 0) (n' := 0) cv_X4_inForce (mm_X4_inForce (σ := σ) k1 I (by omega) hx) q1914 rfl mS_o rfl rfl (Nat.le_of_ble_eq_true rfl) (Nat.le_of_ble_eq_true rfl) (Nat.le_of_ble_eq_true rfl) dX4_closes_48 (Nat.le_refl _) (Nat.le_refl _) ?_
        obtain ⟨ht6, htn, hto⟩ := F_heir_ok I hk1l hx
        refine z_istore_n (lv' := [(2, .int (nI (F_heir (σ.2 9) k1))), (0, .ref m), (1, .int (nI k1))]) E dX4_closes_51 rfl (by decide) rfl ?_
        refine z_aload_n E dX4_closes_52 rfl 1 rfl ?_
        refine m_get E 9 (by decide) rfl q1679 rfl dX4_closes_53 ?_
        refine z_iload_n E dX4_closes_56 rfl 2 rfl ?_
        refine z_iconst (v := 0) E dX4_closes_57 (by decide) ?_
        refine z_callSi E (rest := [.ref (ad 9)]) (k' := 0) (n' := 0) cs_X4_at (mm_X4_at k1 0) q1667 rfl rfl (Nat.le_of_ble_eq_true rfl) (Nat.le_of_ble_eq_true rfl) (Nat.le_of_ble_eq_true rfl) dX4_closes_58 (Nat.le_refl _) (Nat.le_refl _) ?_
        refine z_iconst (v := 0) E dX4_closes_61 (by decide) ?_
        refine m_ast E (j := 9) (q := 6 + 4 * k1 + 0) (by decide) (by show _ < 126; omega) (by omega) dX4_closes_62 ?_
        generalize hs62 : setA σ 9 (6 + 4 * k1 + 0) 0 = s62
        refine z_aload_n E dX4_closes_63 rfl 1 rfl ?_
        refine m_get E 9 (by decide) rfl q1679 rfl dX4_closes_64 ?_
        refine z_iload_n E dX4_closes_67 rfl 0 rfl ?_
        refine z_iconst (v := 2) E dX4_closes_68 (by decide) ?_
        refine z_callSi E (rest := [.ref (ad 9)]) (k' := 0) (n' := 0) cs_X4_at (mm_X4_at (F_heir (σ.2 9) k1) 2) q1667 rfl rfl (Nat.le_of_ble_eq_true rfl) (Nat.le_of_ble_eq_true rfl) (Nat.le_of_ble_eq_true rfl) dX4_closes_69 (Nat.le_refl _) (Nat.le_refl _) ?_
        refine z_dup2_11 E dX4_closes_72 rfl rfl ?_
        refine m_ald E (j := 9) (q := 6 + 4 * (F_heir (σ.2 9) k1) + 2) (by decide) (by show _ < 126; omega) (by omega) dX4_closes_73 ?_
        refine z_aload_n E dX4_closes_74 rfl 1 rfl ?_
        refine m_get E 9 (by decide) rfl q1679 rfl dX4_closes_75 ?_
        refine z_iload_n E dX4_closes_78 rfl 2 rfl ?_
        refine z_iconst (v := 2) E dX4_closes_79 (by decide) ?_
        refine z_callSi E (rest := [.ref (ad 9), .int (s62.2 9 (6 + 4 * (F_heir (σ.2 9) k1) + 2)), .int (nI (6 + 4 * (F_heir (σ.2 9) k1) + 2)), .ref (ad 9)]) (k' := 0) (n' := 0) cs_X4_at (mm_X4_at k1 2) q1667 rfl rfl (Nat.le_of_ble_eq_true rfl) (Nat.le_of_ble_eq_true rfl) (Nat.le_of_ble_eq_true rfl) dX4_closes_80 (Nat.le_refl _) (Nat.le_refl _) ?_
        refine m_ald E (j := 9) (q := 6 + 4 * k1 + 2) (by decide) (by show _ < 126; omega) (by omega) dX4_closes_83 ?_
        refine z_iadd E dX4_closes_84 ?_
        refine m_ast E (j := 9) (q := 6 + 4 * (F_heir (σ.2 9) k1) + 2) (by decide) (by show _ < 126; omega) (by omega) dX4_closes_85 ?_
        generalize hs85 : setA s62 9 (6 + 4 * (F_heir (σ.2 9) k1) + 2) ((s62.2 9 (6 + 4 * (F_heir (σ.2 9) k1) + 2)) + (s62.2 9 (6 + 4 * k1 + 2))) = s85
        refine z_aload_n E dX4_closes_86 rfl 1 rfl ?_
        refine m_get E 9 (by decide) rfl q1679 rfl dX4_closes_87 ?_
        refine z_iload_n E dX4_closes_90 rfl 0 rfl ?_
        refine z_iconst (v := 3) E dX4_closes_91 (by decide) ?_
        refine z_callSi E (rest := [.ref (ad 9)]) (k' := 0) (n' := 0) cs_X4_at (mm_X4_at (F_heir (σ.2 9) k1) 3) q1667 rfl rfl (Nat.le_of_ble_eq_true rfl) (Nat.le_of_ble_eq_true rfl) (Nat.le_of_ble_eq_true rfl) dX4_closes_92 (Nat.le_refl _) (Nat.le_refl _) ?_
        refine z_dup2_11 E dX4_closes_95 rfl rfl ?_
        refine m_ald E (j := 9) (q := 6 + 4 * (F_heir (σ.2 9) k1) + 3) (by decide) (by show _ < 126; omega) (by omega) dX4_closes_96 ?_
        refine z_aload_n E dX4_closes_97 rfl 1 rfl ?_
        refine m_get E 9 (by decide) rfl q1679 rfl dX4_closes_98 ?_
        refine z_iload_n E dX4_closes_101 rfl 2 rfl ?_
        refine z_iconst (v := 3) E dX4_closes_102 (by decide) ?_
        refine z_callSi E (rest := [.ref (ad 9), .int (s85.2 9 (6 + 4 * (F_heir (σ.2 9) k1) + 3)), .int (nI (6 + 4 * (F_heir (σ.2 9) k1) + 3)), .ref (ad 9)]) (k' := 0) (n' := 0) cs_X4_at (mm_X4_at k1 3) q1667 rfl rfl (Nat.le_of_ble_eq_true rfl) (Nat.le_of_ble_eq_true rfl) (Nat.le_of_ble_eq_true rfl) dX4_closes_103 (Nat.le_refl _) (Nat.le_refl _) ?_
        refine m_ald E (j := 9) (q := 6 + 4 * k1 + 3) (by decide) (by show _ < 126; omega) (by omega) dX4_closes_106 ?_
        refine z_iadd E dX4_closes_107 ?_
        refine m_ast E (j := 9) (q := 6 + 4 * (F_heir (σ.2 9) k1) + 3) (by decide) (by show _ < 126; omega) (by omega) dX4_closes_108 ?_
        generalize hs108 : setA s85 9 (6 + 4 * (F_heir (σ.2 9) k1) + 3) ((s85.2 9 (6 + 4 * (F_heir (σ.2 9) k1) + 3)) + (s85.2 9 (6 + 4 * k1 + 3))) = s108
        refine z_aload_n E dX4_closes_109 rfl 1 rfl ?_
        refine m_get E 9 (by decide) rfl q1679 rfl dX4_closes_110 ?_
        refine z_iload_n E dX4_closes_113 rfl 2 rfl ?_
        refine z_iconst (v := 2) E dX4_closes_114 (by decide) ?_
        refine z_callSi E (rest := [.ref (ad 9)]) (k' := 0) (n' := 0) cs_X4_at (mm_X4_at k1 2) q1667 rfl rfl (Nat.le_of_ble_eq_true rfl) (Nat.le_of_ble_eq_true rfl) (Nat.le_of_ble_eq_true rfl) dX4_closes_115 (Nat.le_refl _) (Nat.le_refl _) ?_
        refine z_iconst (v := 0) E dX4_closes_118 (by decide) ?_
        refine m_ast E (j := 9) (q := 6 + 4 * k1 + 2) (by decide) (by show _ < 126; omega) (by omega) dX4_closes_119 ?_
        generalize hs119 : setA s108 9 (6 + 4 * k1 + 2) 0 = s119
        refine z_aload_n E dX4_closes_120 rfl 1 rfl ?_
        refine m_get E 9 (by decide) rfl q1679 rfl dX4_closes_121 ?_
        refine z_iload_n E dX4_closes_124 rfl 2 rfl ?_
        refine z_iconst (v := 3) E dX4_closes_125 (by decide) ?_
        refine z_callSi E (rest := [.ref (ad 9)]) (k' := 0) (n' := 0) cs_X4_at (mm_X4_at k1 3) q1667 rfl rfl (Nat.le_of_ble_eq_true rfl) (Nat.le_of_ble_eq_true rfl) (Nat.le_of_ble_eq_true rfl) dX4_closes_126 (Nat.le_refl _) (Nat.le_refl _) ?_
        refine z_iconst (v := 0) E dX4_closes_129 (by decide) ?_
        refine m_ast E (j := 9) (q := 6 + 4 * k1 + 3) (by decide) (by show _ < 126; omega) (by omega) dX4_closes_130 ?_
        generalize hs130 : setA s119 9 (6 + 4 * k1 + 3) 0 = s130
        refine z_iconst (v := 0) E dX4_closes_131 (by decide) ?_
        refine z_istore_n (lv' := [(3, .int 0), (2, .int (nI (F_heir (σ.2 9) k1))), (0, .ref m), (1, .int (nI k1))]) E dX4_closes_132 rfl (by decide) rfl ?_
        refine z_sub (lv' := [(0, .ref m), (1, .int (nI k1)), (2, .int (nI (F_heir (σ.2 9) k1))), (3, .int 0)]) [2, 3, 1, 0] rfl ?_
        refine ml_closes n k1 (F_heir (σ.2 9) k1)  s130 (fun i _ => iv_closes (by rw [← hs130]; exact (MI_k (by rw [← hs119]; exact (MI_k (by rw [← hs108]; exact (MI_k (by rw [← hs85]; exact (MI_k (by rw [← hs62]; exact (MI_open0 I hk1l)) (by omega) (fun _ _ => by omega) (fun _ _ => by omega) (fun _ _ => by omega))) (by omega) (fun _ _ => by omega) (fun _ _ => by omega) (fun _ _ => by omega))) (by omega) (fun _ _ => by omega) (fun _ _ => by omega) (fun _ _ => by omega))) (by omega) (fun _ _ => by omega) (fun _ _ => by omega) (fun _ _ => by omega))) i) E ?_ n 0 (by omega)
        generalize hs133 : (iterN (B_closes n k1 (F_heir (σ.2 9) k1)) s130 n) = s133
        refine z_aload_n E dX4_closes_218 rfl 0 rfl ?_
        refine z_aload_n E dX4_closes_219 rfl 0 rfl ?_
        refine z_iload_n E dX4_closes_220 rfl 1 rfl ?_
        refine z_iload_n E dX4_closes_221 rfl 2 rfl ?_
        refine z_callVi E (rest := [.ref m]) (k' := 0) (n' := 0) cv_X4_inheritsStubs (mm_X4_inheritsStubs (σ := s133) k1 (F_heir (σ.2 9) k1) (by rw [← hs133]; exact (iv_closes (by rw [← hs130]; exact (MI_k (by rw [← hs119]; exact (MI_k (by rw [← hs108]; exact (MI_k (by rw [← hs85]; exact (MI_k (by rw [← hs62]; exact (MI_open0 I hk1l)) (by omega) (fun _ _ => by omega) (fun _ _ => by omega) (fun _ _ => by omega))) (by omega) (fun _ _ => by omega) (fun _ _ => by omega) (fun _ _ => by omega))) (by omega) (fun _ _ => by omega) (fun _ _ => by omega) (fun _ _ => by omega))) (by omega) (fun _ _ => by omega) (fun _ _ => by omega) (fun _ _ => by omega))) _)) (by omega) (by omega)) q1918 rfl mS_o rfl rfl (Nat.le_of_ble_eq_true rfl) (Nat.le_of_ble_eq_true rfl) (Nat.le_of_ble_eq_true rfl) dX4_closes_222 (Nat.le_refl _) (Nat.le_refl _) ?_
        generalize hs222 : (F_inh k1 (F_heir (σ.2 9) k1) n s133 0 n 0).1 = s222
        refine m_put E 16 (by decide) q1686 rfl rfl (ty := .int) rfl rfl rfl mset_16 dX4_closes_225 ?_
        generalize hs225 : setF s222 16 (nI ((F_inh k1 (F_heir (σ.2 9) k1) n s133 0 n 0).2)) = s225
        have I5 := F_inh_I' (h := k1) (t := F_heir (σ.2 9) k1) (n := n) (σ := s133) ht6 (by rw [← hs133]; exact (iv_closes (by rw [← hs130]; exact (MI_k (by rw [← hs119]; exact (MI_k (by rw [← hs108]; exact (MI_k (by rw [← hs85]; exact (MI_k (by rw [← hs62]; exact (MI_open0 I hk1l)) (by omega) (fun _ _ => by omega) (fun _ _ => by omega) (fun _ _ => by omega))) (by omega) (fun _ _ => by omega) (fun _ _ => by omega) (fun _ _ => by omega))) (by omega) (fun _ _ => by omega) (fun _ _ => by omega) (fun _ _ => by omega))) (by omega) (fun _ _ => by omega) (fun _ _ => by omega) (fun _ _ => by omega))) _))
        rw [hs222] at I5
        generalize hn5 : (s222.2 9 0).toNatClampNeg = n5 at I5
        refine z_aload_n E dX4_closes_228 rfl 0 rfl ?_
        refine z_iload_n E dX4_closes_229 rfl 2 rfl ?_
        refine z_callVv E (rest := []) (k' := 0) (n' := 0) cv_X4_frees (mm_X4_frees (σ := s225) n5 (F_heir (σ.2 9) k1) ((by rw [← hs225]; exact I5))) q1922 rfl mS_o rfl rfl (Nat.le_of_ble_eq_true rfl) (Nat.le_of_ble_eq_true rfl) (Nat.le_of_ble_eq_true rfl) dX4_closes_230 (Nat.le_refl _) (Nat.le_refl _) ?_
        generalize hs230 : M_frees s225 n5 (F_heir (σ.2 9) k1) = s230
        refine z_iload_n E dX4_closes_233 rfl 2 rfl ?_
        exact z_iret E dX4_closes_234 (fun h9 q9 => hP _ _ h9 (by subst hs230 hn5 hs225 hs222 hs133 hs130 hs119 hs108 hs85 hs62 hk1; unfold M_closes; dsimp only; rw [if_neg c4, if_neg c20, if_neg c35]) q9)
      · refine z_aload_n E dX4_closes_38 rfl 0 rfl ?_
        refine z_bipush (v := 15) E dX4_closes_39 (by decide) ?_
        refine z_iload_n E dX4_closes_41 rfl 1 rfl ?_
        refine z_callVi E (rest := []) (k' := 0) (n' := 0) cv_X4_refuses (mm_X4_refuses (σ := σ) 15 (nI k1)) q1778 rfl mS_o rfl rfl (Nat.le_of_ble_eq_true rfl) (Nat.le_of_ble_eq_true rfl) (Nat.le_of_ble_eq_true rfl) dX4_closes_42 (Nat.le_refl _) (Nat.le_refl _) ?_
        generalize hs42 : (M_refuses σ 15 (nI k1)).2 = s42
        exact z_iret E dX4_closes_45 (fun h9 q9 => hP _ _ h9 (by subst hs42 hk1; unfold M_closes; dsimp only; rw [if_neg c4, if_neg c20, if_pos c35]) q9)
    · refine z_aload_n E dX4_closes_23 rfl 0 rfl ?_
      refine z_iconst (v := 2) E dX4_closes_24 (by decide) ?_
      refine z_iload_n E dX4_closes_25 rfl 1 rfl ?_
      refine z_callVi E (rest := []) (k' := 0) (n' := 0) cv_X4_refuses (mm_X4_refuses (σ := σ) 2 (nI k1)) q1778 rfl mS_o rfl rfl (Nat.le_of_ble_eq_true rfl) (Nat.le_of_ble_eq_true rfl) (Nat.le_of_ble_eq_true rfl) dX4_closes_26 (Nat.le_refl _) (Nat.le_refl _) ?_
      generalize hs26 : (M_refuses σ 2 (nI k1)).2 = s26
      exact z_iret E dX4_closes_29 (fun h9 q9 => hP _ _ h9 (by subst hs26 hk1; unfold M_closes; dsimp only; rw [if_neg c4, if_pos c20]) q9)
  · refine z_aload_n E dX4_closes_7 rfl 0 rfl ?_
    refine z_sipush (v := -1011) E dX4_closes_8 (by decide) ?_
    refine z_callVi E (rest := []) (k' := 0) (n' := 0) cv_X4_fail (mm_X4_fail (σ := σ) (-1011)) q1767 rfl mS_o rfl rfl (Nat.le_of_ble_eq_true rfl) (Nat.le_of_ble_eq_true rfl) (Nat.le_of_ble_eq_true rfl) dX4_closes_11 (Nat.le_refl _) (Nat.le_refl _) ?_
    generalize hs11 : (M_fail σ (-1011)).2 = s11
    exact z_iret E dX4_closes_14 (fun h9 q9 => hP _ _ h9 (by subst hs11; unfold M_closes; dsimp only; rw [if_pos c4]) q9)
theorem mm_X4_closes {l : Launch} {w : zWd} {m : Nat} {ad : Nat → Nat} {h0 : zH} {σ : mSt} (n : Nat) (h : Int32) (I : MI (σ.2 9) n) : ZM l w yX4_closes (ws_ yX4_closes cX4_closes 4 (some .int)) 3 69 0 0 [.ref m, .int h] (mS m ad h0 σ) (zri (M_closes σ n h).1 (mS m ad h0 (M_closes σ n h).2)) zno :=
  zm_of (by decide) rfl (Nat.le_of_ble_eq_true rfl) (fun X _ E => mb_X4_closes n h I E (fun r s h e q => by rw [← e]; exact ⟨rfl, q⟩))
def B_passes (n : Nat) (a : Int32) (i : Nat) (s : Int32 × mSt) : Int32 × mSt :=
  let s145 := if (s.2.2 9 (30 + 8 * i + 6)) = 0 then s.2 else (setA (setA s.2 9 (30 + 8 * i + 5) (if (if a < (s.2.2 9 (30 + 8 * i + 5)) then ((0 : Int32)) else ((1 : Int32))) = 0 then ((s.2.2 9 (30 + 8 * i + 5)) - a) else ((0 : Int32)))) 9 (30 + 8 * i + 6) (if (if a < (s.2.2 9 (30 + 8 * i + 5)) then ((0 : Int32)) else ((1 : Int32))) = 0 then ((setA s.2 9 (30 + 8 * i + 5) (if (if a < (s.2.2 9 (30 + 8 * i + 5)) then ((0 : Int32)) else ((1 : Int32))) = 0 then ((s.2.2 9 (30 + 8 * i + 5)) - a) else ((0 : Int32)))).2 9 (30 + 8 * i + 6)) else ((0 : Int32))))
  (if (s.2.2 9 (30 + 8 * i + 6)) = 0 then s.1 else s.1 + (if (if a < (s.2.2 9 (30 + 8 * i + 5)) then ((0 : Int32)) else ((1 : Int32))) = 0 then ((0 : Int32)) else ((1 : Int32))), s145)
set_option maxHeartbeats 4000000 in
theorem ml_passes {X : zX} {w : zWd} {m : Nat} {ad : Nat → Nat} {h0 : zH} {P : Option Value → zH → Prop} {PX : Nat → zH → Prop} (n : Nat) (a : Int32)  (s0 : Int32 × mSt) (hv0 : ∀ i, i ≤ n → MI ((iterN (B_passes n a) s0 i).2.2 9) n) (E : zOK X w RX4 cX4_passes 5 1 22 [] (some .int) "passes") (kx : Z X w 5 (zQ X w P PX) (mS m ad h0 ((iterN (B_passes n a) s0 n).2)) 0 0 [(0, .ref m), (1, .int a), (2, .int ((iterN (B_passes n a) s0 n).1)), (3, .int (nI n))] 151 []) : ∀ d i, i + d = n → Z X w 5 (zQ X w P PX) (mS m ad h0 ((iterN (B_passes n a) s0 i).2)) 0 0 [(0, .ref m), (1, .int a), (2, .int ((iterN (B_passes n a) s0 i).1)), (3, .int (nI i))] 22 [] := by
  intro d
  induction d with
  | zero =>
    intro i hi
    have hi : i = n := by omega
    rw [hi]
    have hv := hv0 n (Nat.le_refl n)
    have hn12 := hv.2.1
    refine z_iload_n E dX4_passes_22 rfl 3 rfl ?_
    refine z_aload_n E dX4_passes_23 rfl 0 rfl ?_
    refine m_get E 9 (by decide) rfl q1679 rfl dX4_passes_24 ?_
    refine z_iconst (v := 0) E dX4_passes_27 (by decide) ?_
    refine m_ald E (j := 9) (q := 0) (by decide) (by show _ < 126; omega) (by omega) dX4_passes_28 ?_
    refine z_top (hv.1) ?_
    refine z_icmp_geN (a := n) (b := n) (tgt := 151) E (by omega) (by omega) dX4_passes_29 (by decide) (fun c29 => ?_) (fun c29 => absurd c29 (by omega))
    exact kx
  | succ d ih =>
    intro i hi
    have ih1 := ih (i + 1) (by omega)
    have hv := hv0 i (by omega)
    have hn12 := hv.2.1
    rw [iterN_s] at ih1
    generalize hs : iterN (B_passes n a) s0 i = s at ih1 hv ⊢
    refine z_iload_n E dX4_passes_22 rfl 3 rfl ?_
    refine z_aload_n E dX4_passes_23 rfl 0 rfl ?_
    refine m_get E 9 (by decide) rfl q1679 rfl dX4_passes_24 ?_
    refine z_iconst (v := 0) E dX4_passes_27 (by decide) ?_
    refine m_ald E (j := 9) (q := 0) (by decide) (by show _ < 126; omega) (by omega) dX4_passes_28 ?_
    refine z_top (hv.1) ?_
    refine z_icmp_geN (a := i) (b := n) (tgt := 151) E (by omega) (by omega) dX4_passes_29 (by decide) (fun c29 => absurd c29 (by omega)) (fun c29 => ?_)
    refine z_aload_n E dX4_passes_32 rfl 0 rfl ?_
    refine m_get E 9 (by decide) rfl q1679 rfl dX4_passes_33 ?_
    refine z_iload_n E dX4_passes_36 rfl 3 rfl ?_
    refine z_bipush (v := 6) E dX4_passes_37 (by decide) ?_
    refine z_callSi E (rest := [.ref (ad 9)]) (k' := 0) (n' := 0) cs_X4_in (mm_X4_in i 6) q1790 rfl rfl (Nat.le_of_ble_eq_true rfl) (Nat.le_of_ble_eq_true rfl) (Nat.le_of_ble_eq_true rfl) dX4_passes_39 (Nat.le_refl _) (Nat.le_refl _) ?_
    refine m_ald E (j := 9) (q := 30 + 8 * i + 6) (by decide) (by show _ < 126; omega) (by omega) dX4_passes_42 ?_
    have J43 : ∀ (j43_0 : Int32) (j43_1 : mSt), j43_0 = (if (s.2.2 9 (30 + 8 * i + 6)) = 0 then s.1 else s.1 + (if (if a < (s.2.2 9 (30 + 8 * i + 5)) then ((0 : Int32)) else ((1 : Int32))) = 0 then ((0 : Int32)) else ((1 : Int32)))) → j43_1 = (if (s.2.2 9 (30 + 8 * i + 6)) = 0 then s.2 else (setA (setA s.2 9 (30 + 8 * i + 5) (if (if a < (s.2.2 9 (30 + 8 * i + 5)) then ((0 : Int32)) else ((1 : Int32))) = 0 then ((s.2.2 9 (30 + 8 * i + 5)) - a) else ((0 : Int32)))) 9 (30 + 8 * i + 6) (if (if a < (s.2.2 9 (30 + 8 * i + 5)) then ((0 : Int32)) else ((1 : Int32))) = 0 then ((setA s.2 9 (30 + 8 * i + 5) (if (if a < (s.2.2 9 (30 + 8 * i + 5)) then ((0 : Int32)) else ((1 : Int32))) = 0 then ((s.2.2 9 (30 + 8 * i + 5)) - a) else ((0 : Int32)))).2 9 (30 + 8 * i + 6)) else ((0 : Int32))))) → Z X w 5 (zQ X w P PX) (mS m ad h0 j43_1) 0 0 [(0, .ref m), (1, .int a), (2, .int j43_0), (3, .int (nI i))] 145 [] := by
      intro j43_0 j43_1 ej43_0 ej43_1
      subst ej43_0 ej43_1
      generalize hs145 : (if (s.2.2 9 (30 + 8 * i + 6)) = 0 then s.2 else (setA (setA s.2 9 (30 + 8 * i + 5) (if (if a < (s.2.2 9 (30 + 8 * i + 5)) then ((0 : Int32)) else ((1 : Int32))) = 0 then ((s.2.2 9 (30 + 8 * i + 5)) - a) else ((0 : Int32)))) 9 (30 + 8 * i + 6) (if (if a < (s.2.2 9 (30 + 8 * i + 5)) then ((0 : Int32)) else ((1 : Int32))) = 0 then ((setA s.2 9 (30 + 8 * i + 5) (if (if a < (s.2.2 9 (30 + 8 * i + 5)) then ((0 : Int32)) else ((1 : Int32))) = 0 then ((s.2.2 9 (30 + 8 * i + 5)) - a) else ((0 : Int32)))).2 9 (30 + 8 * i + 6)) else ((0 : Int32))))) = s145
      refine z_iinc (v := nI (i + 1)) (lv' := [(3, .int (nI (i + 1))), (0, .ref m), (1, .int a), (2, .int (if (s.2.2 9 (30 + 8 * i + 6)) = 0 then s.1 else s.1 + (if (if a < (s.2.2 9 (30 + 8 * i + 5)) then ((0 : Int32)) else ((1 : Int32))) = 0 then ((0 : Int32)) else ((1 : Int32)))))]) E dX4_passes_145 (j := 3) rfl (nI_add _ 1) (by decide) rfl ?_
      refine z_goto (tgt := 22) E dX4_passes_148 (by decide) ?_
      refine z_sub (lv' := [(0, .ref m), (1, .int a), (2, .int (if (s.2.2 9 (30 + 8 * i + 6)) = 0 then s.1 else s.1 + (if (if a < (s.2.2 9 (30 + 8 * i + 5)) then ((0 : Int32)) else ((1 : Int32))) = 0 then ((0 : Int32)) else ((1 : Int32))))), (3, .int (nI (i + 1)))]) [1, 2, 3, 0] rfl ?_
      subst hs145
      exact ih1
    refine z_if_ne (tgt := 49) E dX4_passes_43 (by decide) (fun c43 => ?_) (fun c43 => ?_)
    · refine z_aload_n E dX4_passes_49 rfl 0 rfl ?_
      refine m_get E 9 (by decide) rfl q1679 rfl dX4_passes_50 ?_
      refine z_iload_n E dX4_passes_53 rfl 3 rfl ?_
      refine z_iconst (v := 5) E dX4_passes_54 (by decide) ?_
      refine z_callSi E (rest := [.ref (ad 9)]) (k' := 0) (n' := 0) cs_X4_in (mm_X4_in i 5) q1790 rfl rfl (Nat.le_of_ble_eq_true rfl) (Nat.le_of_ble_eq_true rfl) (Nat.le_of_ble_eq_true rfl) dX4_passes_55 (Nat.le_refl _) (Nat.le_refl _) ?_
      refine m_ald E (j := 9) (q := 30 + 8 * i + 5) (by decide) (by show _ < 126; omega) (by omega) dX4_passes_58 ?_
      refine z_iload_n E dX4_passes_59 rfl 1 rfl ?_
      have J60 : ∀ (j60_0 : Int32), j60_0 = (if a < (s.2.2 9 (30 + 8 * i + 5)) then ((0 : Int32)) else ((1 : Int32))) → Z X w 5 (zQ X w P PX) (mS m ad h0 s.2) 0 0 [(0, .ref m), (1, .int a), (2, .int s.1), (3, .int (nI i))] 68 [.int j60_0] := by
        intro j60_0 ej60_0
        subst ej60_0
        refine z_istore (lv' := [(4, .int (if a < (s.2.2 9 (30 + 8 * i + 5)) then ((0 : Int32)) else ((1 : Int32)))), (0, .ref m), (1, .int a), (2, .int s.1), (3, .int (nI i))]) E dX4_passes_68 (by decide) rfl ?_
        refine z_iload_n E dX4_passes_70 rfl 3 rfl ?_
        refine z_iload E dX4_passes_71 0 rfl ?_
        have J73 : ∀ (j73_0 : Int32), j73_0 = (if (if a < (s.2.2 9 (30 + 8 * i + 5)) then ((0 : Int32)) else ((1 : Int32))) = 0 then ((0 : Int32)) else ((1 : Int32))) → Z X w 5 (zQ X w P PX) (mS m ad h0 s.2) 0 0 [(0, .ref m), (1, .int a), (2, .int s.1), (3, .int (nI i)), (4, .int (if a < (s.2.2 9 (30 + 8 * i + 5)) then ((0 : Int32)) else ((1 : Int32))))] 81 [.int j73_0, .int s.1] := by
          intro j73_0 ej73_0
          subst ej73_0
          refine z_iadd E dX4_passes_81 ?_
          refine z_istore_n (lv' := [(2, .int (s.1 + (if (if a < (s.2.2 9 (30 + 8 * i + 5)) then ((0 : Int32)) else ((1 : Int32))) = 0 then ((0 : Int32)) else ((1 : Int32))))), (0, .ref m), (1, .int a), (3, .int (nI i)), (4, .int (if a < (s.2.2 9 (30 + 8 * i + 5)) then ((0 : Int32)) else ((1 : Int32))))]) E dX4_passes_82 rfl (by decide) rfl ?_
          refine z_aload_n E dX4_passes_83 rfl 1 rfl ?_
          refine m_get E 9 (by decide) rfl q1679 rfl dX4_passes_84 ?_
          refine z_iload_n E dX4_passes_87 rfl 3 rfl ?_
          refine z_iconst (v := 5) E dX4_passes_88 (by decide) ?_
          refine z_callSi E (rest := [.ref (ad 9)]) (k' := 0) (n' := 0) cs_X4_in (mm_X4_in i 5) q1790 rfl rfl (Nat.le_of_ble_eq_true rfl) (Nat.le_of_ble_eq_true rfl) (Nat.le_of_ble_eq_true rfl) dX4_passes_89 (Nat.le_refl _) (Nat.le_refl _) ?_
          refine z_iload E dX4_passes_92 4 rfl ?_
          have J94 : ∀ (j94_0 : Int32), j94_0 = (if (if a < (s.2.2 9 (30 + 8 * i + 5)) then ((0 : Int32)) else ((1 : Int32))) = 0 then ((s.2.2 9 (30 + 8 * i + 5)) - a) else ((0 : Int32))) → Z X w 5 (zQ X w P PX) (mS m ad h0 s.2) 0 0 [(0, .ref m), (1, .int a), (2, .int (s.1 + (if (if a < (s.2.2 9 (30 + 8 * i + 5)) then ((0 : Int32)) else ((1 : Int32))) = 0 then ((0 : Int32)) else ((1 : Int32))))), (3, .int (nI i)), (4, .int (if a < (s.2.2 9 (30 + 8 * i + 5)) then ((0 : Int32)) else ((1 : Int32))))] 113 [.int j94_0, .int (nI (30 + 8 * i + 5)), .ref (ad 9)] := by
            intro j94_0 ej94_0
            subst ej94_0
            refine m_ast E (j := 9) (q := 30 + 8 * i + 5) (by decide) (by show _ < 126; omega) (by omega) dX4_passes_113 ?_
            generalize hs113 : setA s.2 9 (30 + 8 * i + 5) (if (if a < (s.2.2 9 (30 + 8 * i + 5)) then ((0 : Int32)) else ((1 : Int32))) = 0 then ((s.2.2 9 (30 + 8 * i + 5)) - a) else ((0 : Int32))) = s113
            refine z_aload_n E dX4_passes_114 rfl 0 rfl ?_
            refine m_get E 9 (by decide) rfl q1679 rfl dX4_passes_115 ?_
            refine z_iload_n E dX4_passes_118 rfl 3 rfl ?_
            refine z_bipush (v := 6) E dX4_passes_119 (by decide) ?_
            refine z_callSi E (rest := [.ref (ad 9)]) (k' := 0) (n' := 0) cs_X4_in (mm_X4_in i 6) q1790 rfl rfl (Nat.le_of_ble_eq_true rfl) (Nat.le_of_ble_eq_true rfl) (Nat.le_of_ble_eq_true rfl) dX4_passes_121 (Nat.le_refl _) (Nat.le_refl _) ?_
            refine z_iload E dX4_passes_124 4 rfl ?_
            have J126 : ∀ (j126_0 : Int32), j126_0 = (if (if a < (s.2.2 9 (30 + 8 * i + 5)) then ((0 : Int32)) else ((1 : Int32))) = 0 then (s113.2 9 (30 + 8 * i + 6)) else ((0 : Int32))) → Z X w 5 (zQ X w P PX) (mS m ad h0 s113) 0 0 [(0, .ref m), (1, .int a), (2, .int (s.1 + (if (if a < (s.2.2 9 (30 + 8 * i + 5)) then ((0 : Int32)) else ((1 : Int32))) = 0 then ((0 : Int32)) else ((1 : Int32))))), (3, .int (nI i)), (4, .int (if a < (s.2.2 9 (30 + 8 * i + 5)) then ((0 : Int32)) else ((1 : Int32))))] 144 [.int j126_0, .int (nI (30 + 8 * i + 6)), .ref (ad 9)] := by
              intro j126_0 ej126_0
              subst ej126_0
              refine m_ast E (j := 9) (q := 30 + 8 * i + 6) (by decide) (by show _ < 126; omega) (by omega) dX4_passes_144 ?_
              generalize hs144 : setA s113 9 (30 + 8 * i + 6) (if (if a < (s.2.2 9 (30 + 8 * i + 5)) then ((0 : Int32)) else ((1 : Int32))) = 0 then (s113.2 9 (30 + 8 * i + 6)) else ((0 : Int32))) = s144
              subst hs144 hs113
              refine z_sub (lv' := [(0, .ref m), (1, .int a), (2, .int (s.1 + (if (if a < (s.2.2 9 (30 + 8 * i + 5)) then ((0 : Int32)) else ((1 : Int32))) = 0 then ((0 : Int32)) else ((1 : Int32))))), (3, .int (nI i))]) [0, 1, 2, 3] rfl ?_
              exact J43 _ _ ((if_neg c43).symm) ((if_neg c43).symm)
            refine z_if_eq (tgt := 133) E dX4_passes_126 (by decide) (fun c126 => ?_) (fun c126 => ?_)
            · refine z_aload_n E dX4_passes_133 rfl 0 rfl ?_
              refine m_get E 9 (by decide) rfl q1679 rfl dX4_passes_134 ?_
              refine z_iload_n E dX4_passes_137 rfl 3 rfl ?_
              refine z_bipush (v := 6) E dX4_passes_138 (by decide) ?_
              refine z_callSi E (rest := [.ref (ad 9), .int (nI (30 + 8 * i + 6)), .ref (ad 9)]) (k' := 0) (n' := 0) cs_X4_in (mm_X4_in i 6) q1790 rfl rfl (Nat.le_of_ble_eq_true rfl) (Nat.le_of_ble_eq_true rfl) (Nat.le_of_ble_eq_true rfl) dX4_passes_140 (Nat.le_refl _) (Nat.le_refl _) ?_
              refine m_ald E (j := 9) (q := 30 + 8 * i + 6) (by decide) (by show _ < 126; omega) (by omega) dX4_passes_143 ?_
              exact J126 _ ((if_pos c126).symm)
            · refine z_iconst (v := 0) E dX4_passes_129 (by decide) ?_
              refine z_goto (tgt := 144) E dX4_passes_130 (by decide) ?_
              exact J126 _ ((if_neg c126).symm)
          refine z_if_eq (tgt := 101) E dX4_passes_94 (by decide) (fun c94 => ?_) (fun c94 => ?_)
          · refine z_aload_n E dX4_passes_101 rfl 1 rfl ?_
            refine m_get E 9 (by decide) rfl q1679 rfl dX4_passes_102 ?_
            refine z_iload_n E dX4_passes_105 rfl 3 rfl ?_
            refine z_iconst (v := 5) E dX4_passes_106 (by decide) ?_
            refine z_callSi E (rest := [.ref (ad 9), .int (nI (30 + 8 * i + 5)), .ref (ad 9)]) (k' := 0) (n' := 0) cs_X4_in (mm_X4_in i 5) q1790 rfl rfl (Nat.le_of_ble_eq_true rfl) (Nat.le_of_ble_eq_true rfl) (Nat.le_of_ble_eq_true rfl) dX4_passes_107 (Nat.le_refl _) (Nat.le_refl _) ?_
            refine m_ald E (j := 9) (q := 30 + 8 * i + 5) (by decide) (by show _ < 126; omega) (by omega) dX4_passes_110 ?_
            refine z_iload_n E dX4_passes_111 rfl 2 rfl ?_
            refine z_isub E dX4_passes_112 ?_
            refine z_sub (lv' := [(0, .ref m), (1, .int a), (2, .int (s.1 + (if (if a < (s.2.2 9 (30 + 8 * i + 5)) then ((0 : Int32)) else ((1 : Int32))) = 0 then ((0 : Int32)) else ((1 : Int32))))), (3, .int (nI i)), (4, .int (if a < (s.2.2 9 (30 + 8 * i + 5)) then ((0 : Int32)) else ((1 : Int32))))]) [1, 2, 0, 3, 4] rfl ?_
            exact J94 _ ((if_pos c94).symm)
          · refine z_iconst (v := 0) E dX4_passes_97 (by decide) ?_
            refine z_goto (tgt := 113) E dX4_passes_98 (by decide) ?_
            refine z_sub (lv' := [(0, .ref m), (1, .int a), (2, .int (s.1 + (if (if a < (s.2.2 9 (30 + 8 * i + 5)) then ((0 : Int32)) else ((1 : Int32))) = 0 then ((0 : Int32)) else ((1 : Int32))))), (3, .int (nI i)), (4, .int (if a < (s.2.2 9 (30 + 8 * i + 5)) then ((0 : Int32)) else ((1 : Int32))))]) [1, 2, 0, 3, 4] rfl ?_
            exact J94 _ ((if_neg c94).symm)
        refine z_if_eq (tgt := 80) E dX4_passes_73 (by decide) (fun c73 => ?_) (fun c73 => ?_)
        · refine z_iconst (v := 0) E dX4_passes_80 (by decide) ?_
          refine z_sub (lv' := [(0, .ref m), (1, .int a), (2, .int s.1), (3, .int (nI i)), (4, .int (if a < (s.2.2 9 (30 + 8 * i + 5)) then ((0 : Int32)) else ((1 : Int32))))]) [1, 2, 3, 4, 0] rfl ?_
          exact J73 _ ((if_pos c73).symm)
        · refine z_iconst (v := 1) E dX4_passes_76 (by decide) ?_
          refine z_goto (tgt := 81) E dX4_passes_77 (by decide) ?_
          refine z_sub (lv' := [(0, .ref m), (1, .int a), (2, .int s.1), (3, .int (nI i)), (4, .int (if a < (s.2.2 9 (30 + 8 * i + 5)) then ((0 : Int32)) else ((1 : Int32))))]) [1, 2, 3, 4, 0] rfl ?_
          exact J73 _ ((if_neg c73).symm)
      refine z_icmp_gt (tgt := 67) E dX4_passes_60 (by decide) (fun c60 => ?_) (fun c60 => ?_)
      · refine z_iconst (v := 0) E dX4_passes_67 (by decide) ?_
        exact J60 _ ((if_pos c60).symm)
      · refine z_iconst (v := 1) E dX4_passes_63 (by decide) ?_
        refine z_goto (tgt := 68) E dX4_passes_64 (by decide) ?_
        exact J60 _ ((if_neg c60).symm)
    · refine z_goto (tgt := 145) E dX4_passes_46 (by decide) ?_
      exact J43 _ _ ((if_pos c43).symm) ((if_pos c43).symm)
theorem iv_passes {n : Nat} {a : Int32} {s0 : Int32 × mSt} (I : MI (s0.2.2 9) n) : ∀ i, MI ((iterN (B_passes n a) s0 i).2.2 9) n := by
  intro i
  induction i with
  | zero => exact I
  | succ i ih =>
    rw [iterN_s]
    generalize iterN (B_passes n a) s0 i = s at ih ⊢
    unfold B_passes
    dsimp only
    repeat' split
    all_goals first | exact ih | exact (MI_K ih ⟨by omega, fun _ _ => by omega, fun _ _ => by omega, fun _ _ => by omega⟩) | exact (MI_K (MI_K ih ⟨by omega, fun _ _ => by omega, fun _ _ => by omega, fun _ _ => by omega⟩) ⟨by omega, fun _ _ => by omega, fun _ _ => by omega, fun _ _ => by omega⟩) | exact (MI_K (MI_K (MI_K ih ⟨by omega, fun _ _ => by omega, fun _ _ => by omega, fun _ _ => by omega⟩) ⟨by omega, fun _ _ => by omega, fun _ _ => by omega, fun _ _ => by omega⟩) ⟨by omega, fun _ _ => by omega, fun _ _ => by omega, fun _ _ => by omega⟩) | exact (MI_K (MI_K (MI_K (MI_K ih ⟨by omega, fun _ _ => by omega, fun _ _ => by omega, fun _ _ => by omega⟩) ⟨by omega, fun _ _ => by omega, fun _ _ => by omega, fun _ _ => by omega⟩) ⟨by omega, fun _ _ => by omega, fun _ _ => by omega, fun _ _ => by omega⟩) ⟨by omega, fun _ _ => by omega, fun _ _ => by omega, fun _ _ => by omega⟩)
theorem cv_X4_passes : zCV yX4_passes RX4 cX4_passes 5 (some .int) 1 := ⟨⟨q1932, qs64, q95, q1933⟩, by decide +kernel⟩
def M_passes (σ : mSt) (n : Nat) (a : Int32) : Int32 × mSt :=
  if (M_isIn a 1 24) = 0 then
    let s14 := (M_fail σ (-1012)).2
    ((M_fail σ (-1012)).1, s14)
  else
    let s22 := (iterN (B_passes n a) (0, σ) n).2
    let s160 := setA s22 9 5 ((s22.2 9 5) + a)
    ((iterN (B_passes n a) (0, σ) n).1, s160)
set_option maxHeartbeats 4000000 in
theorem mb_X4_passes {X : zX} {w : zWd} {m : Nat} {ad : Nat → Nat} {h0 : zH} {σ : mSt} {P : Option Value → zH → Prop} {PX : Nat → zH → Prop} (n : Nat) (a : Int32) (I : MI (σ.2 9) n) (E : zOK X w RX4 cX4_passes 5 1 22 [] (some .int) "passes") (hP : ∀ r9 s9 h9, (r9, s9) = M_passes σ n a → mS m ad h0 s9 h9 → P (some (.int r9)) h9) : Z X w 5 (zQ X w P PX) (mS m ad h0 σ) 0 0 [(0, .ref m), (1, .int a)] 0 [] := by
  have hn12 := I.2.1
  refine z_iload_n E dX4_passes_0 rfl 1 rfl ?_
  refine z_iconst (v := 1) E dX4_passes_1 (by decide) ?_
  refine z_bipush (v := 24) E dX4_passes_2 (by decide) ?_
  refine z_callSi E (rest := []) (k' := 0) (n' := 0) cs_X4_isIn (mm_X4_isIn a 1 24) q1764 rfl rfl (Nat.le_of_ble_eq_true rfl) (Nat.le_of_ble_eq_true rfl) (Nat.le_of_ble_eq_true rfl) dX4_passes_4 (Nat.le_refl _) (Nat.le_refl _) ?_
  refine z_if_ne (tgt := 18) E dX4_passes_7 (by decide) (fun c7 => ?_) (fun c7 => ?_)
  · refine z_iconst (v := 0) E dX4_passes_18 (by decide) ?_
    refine z_istore_n (lv' := [(2, .int 0), (0, .ref m), (1, .int a)]) E dX4_passes_19 rfl (by decide) rfl ?_
    refine z_iconst (v := 0) E dX4_passes_20 (by decide) ?_
    refine z_istore_n (lv' := [(3, .int 0), (2, .int 0), (0, .ref m), (1, .int a)]) E dX4_passes_21 rfl (by decide) rfl ?_
    refine z_sub (lv' := [(0, .ref m), (1, .int a), (2, .int 0), (3, .int 0)]) [2, 3, 1, 0] rfl ?_
    refine ml_passes n a  (0, σ) (fun i _ => iv_passes I i) E ?_ n 0 (by omega)
    generalize hs22 : (iterN (B_passes n a) (0, σ) n).2 = s22
    refine z_aload_n E dX4_passes_151 rfl 0 rfl ?_
    refine m_get E 9 (by decide) rfl q1679 rfl dX4_passes_152 ?_
    refine z_iconst (v := 5) E dX4_passes_155 (by decide) ?_
    refine z_dup2_11 E dX4_passes_156 rfl rfl ?_
    refine m_ald E (j := 9) (q := 5) (by decide) (by show _ < 126; omega) (by omega) dX4_passes_157 ?_
    refine z_iload_n E dX4_passes_158 rfl 1 rfl ?_
    refine z_iadd E dX4_passes_159 ?_
    refine m_ast E (j := 9) (q := 5) (by decide) (by show _ < 126; omega) (by omega) dX4_passes_160 ?_
    generalize hs160 : setA s22 9 5 ((s22.2 9 5) + a) = s160
    refine z_iload_n E dX4_passes_161 rfl 2 rfl ?_
    exact z_iret E dX4_passes_162 (fun h9 q9 => hP _ _ h9 (by subst hs160 hs22; unfold M_passes; dsimp only; rw [if_neg c7]) q9)
  · refine z_aload_n E dX4_passes_10 rfl 0 rfl ?_
    refine z_sipush (v := -1012) E dX4_passes_11 (by decide) ?_
    refine z_callVi E (rest := []) (k' := 0) (n' := 0) cv_X4_fail (mm_X4_fail (σ := σ) (-1012)) q1767 rfl mS_o rfl rfl (Nat.le_of_ble_eq_true rfl) (Nat.le_of_ble_eq_true rfl) (Nat.le_of_ble_eq_true rfl) dX4_passes_14 (Nat.le_refl _) (Nat.le_refl _) ?_
    generalize hs14 : (M_fail σ (-1012)).2 = s14
    exact z_iret E dX4_passes_17 (fun h9 q9 => hP _ _ h9 (by subst hs14; unfold M_passes; dsimp only; rw [if_pos c7]) q9)
theorem mm_X4_passes {l : Launch} {w : zWd} {m : Nat} {ad : Nat → Nat} {h0 : zH} {σ : mSt} (n : Nat) (a : Int32) (I : MI (σ.2 9) n) : ZM l w yX4_passes (ws_ yX4_passes cX4_passes 5 (some .int)) 1 22 0 0 [.ref m, .int a] (mS m ad h0 σ) (zri (M_passes σ n a).1 (mS m ad h0 (M_passes σ n a).2)) zno :=
  zm_of (by decide) rfl (Nat.le_of_ble_eq_true rfl) (fun X _ E => mb_X4_passes n a I E (fun r s h e q => by rw [← e]; exact ⟨rfl, q⟩))
