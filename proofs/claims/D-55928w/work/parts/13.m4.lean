set_option maxRecDepth 100000
section ZS3
variable {X : zX} {w : zWd} {own nm : String} {cc : ByteArray} {nL fr lo : Nat} {tb : zTb} {ret : Option FieldType} {Q : State → Prop} {S S' : zH → Prop} {k n k' n' : Nat} {lv : List (Nat × Value)} {pc : Nat} {st rest : List Value}
theorem nI_le0 {a : Nat} (ha : a < 2147483648) : nI a ≤ 0 ↔ a = 0 := by
  rw [show (0 : Int32) = nI 0 from rfl, nI_leI ha (by decide)]; omega
theorem nI_eq0 {a : Nat} (ha : a < 2147483648) : nI a = 0 ↔ a = 0 := by
  rw [show (0 : Int32) = nI 0 from rfl, nI_eq ha (by decide)]
theorem nI_0lt {a : Nat} (ha : a < 2147483648) : 0 < nI a ↔ ¬ a = 0 := by
  rw [show (0 : Int32) = nI 0 from rfl, nI_ltI (by decide) ha]; omega
theorem z_if_leN (E : zOK X w own cc nL fr lo tb ret nm) {a : Nat} {off : Int} {tgt : Nat} (ha : a < 2147483648) (hd : decode cc pc = .ok (.ifCond .le off, 3)) (ht : (pc : Int) + off = (tgt : Int)) (kt : a = 0 → Z X w nL Q S k n lv tgt st) (kf : ¬ a = 0 → Z X w nL Q S k n lv (pc + 3) st) : Z X w nL Q S k n lv pc (.int (nI a) :: st) :=
  z_if_le E hd ht (fun q => kt ((nI_le0 ha).mp q)) (fun q => kf fun z => q ((nI_le0 ha).mpr z))
theorem z_if_gtN (E : zOK X w own cc nL fr lo tb ret nm) {a : Nat} {off : Int} {tgt : Nat} (ha : a < 2147483648) (hd : decode cc pc = .ok (.ifCond .gt off, 3)) (ht : (pc : Int) + off = (tgt : Int)) (kt : ¬ a = 0 → Z X w nL Q S k n lv tgt st) (kf : a = 0 → Z X w nL Q S k n lv (pc + 3) st) : Z X w nL Q S k n lv pc (.int (nI a) :: st) :=
  z_if_gt E hd ht (fun q => kt ((nI_0lt ha).mp q)) (fun q => kf (Decidable.byContradiction fun z => q ((nI_0lt ha).mpr z)))
theorem z_if_eqN (E : zOK X w own cc nL fr lo tb ret nm) {a : Nat} {off : Int} {tgt : Nat} (ha : a < 2147483648) (hd : decode cc pc = .ok (.ifCond .eq off, 3)) (ht : (pc : Int) + off = (tgt : Int)) (kt : a = 0 → Z X w nL Q S k n lv tgt st) (kf : ¬ a = 0 → Z X w nL Q S k n lv (pc + 3) st) : Z X w nL Q S k n lv pc (.int (nI a) :: st) :=
  z_if_eq E hd ht (fun q => kt ((nI_eq0 ha).mp q)) (fun q => kf fun z => q ((nI_eq0 ha).mpr z))
theorem z_if_neN (E : zOK X w own cc nL fr lo tb ret nm) {a : Nat} {off : Int} {tgt : Nat} (ha : a < 2147483648) (hd : decode cc pc = .ok (.ifCond .ne off, 3)) (ht : (pc : Int) + off = (tgt : Int)) (kt : ¬ a = 0 → Z X w nL Q S k n lv tgt st) (kf : a = 0 → Z X w nL Q S k n lv (pc + 3) st) : Z X w nL Q S k n lv pc (.int (nI a) :: st) :=
  z_if_ne E hd ht (fun q => kt fun z => q ((nI_eq0 ha).mpr z)) (fun q => kf ((nI_eq0 ha).mp q))
theorem z_tcase (E : zOK X w own cc nL fr lo tb ret nm) {dflt l h : Int} {offs : Array Int} {len : Nat} {x : Int32} (c : Int32) {off : Int} {tgt : Nat} (hd : decode cc pc = .ok (.tableswitch dflt l h offs, len)) (h1 : ¬ c.toInt < l) (h2 : ¬ h < c.toInt) (ho : offs[(c.toInt - l).toNat]? = some off) (ht : (pc : Int) + off = (tgt : Int)) (kt : x = c → Z X w nL Q S k n lv tgt st) (kf : ¬ x = c → Z X w nL Q S k n lv pc (.int x :: st)) : Z X w nL Q S k n lv pc (.int x :: st) := by
  by_cases e : x = c
  · subst e
    exact z_tableIn E hd h1 h2 ho ht (kt rfl)
  · exact kf e
theorem z_tdef (E : zOK X w own cc nL fr lo tb ret nm) {dflt l h : Int} {offs : Array Int} {len : Nat} {x : Int32} {tgt : Nat} (hd : decode cc pc = .ok (.tableswitch dflt l h offs, len)) (ht : (pc : Int) + dflt = (tgt : Int)) (hx : x.toInt < l ∨ h < x.toInt ∨ offs[(x.toInt - l).toNat]? = some dflt) (kk : Z X w nL Q S k n lv tgt st) : Z X w nL Q S k n lv pc (.int x :: st) := by
  by_cases h1 : x.toInt < l
  · exact z_tableOut E hd (Or.inl h1) ht kk
  · by_cases h2 : h < x.toInt
    · exact z_tableOut E hd (Or.inr h2) ht kk
    · rcases hx with q | q | q
      · exact absurd q h1
      · exact absurd q h2
      · exact z_tableIn E hd h1 h2 q ht kk
end ZS3
def B_finds1 (n : Nat) (a b : Int32) (i : Nat) (s : Int32 × mSt) : Int32 × mSt :=
  let s46 := setA s.2 14 i (if b = 0 then (0 : Int32) else (a * (M_claim s.2 n i)) / b)
  let s71 := setA s46 15 i (if b = 0 then (0 : Int32) else (a * (M_claim s46 n i)) - (a * (M_claim s46 n i)) / b * b)
  (s.1 - (s71.2 14 i), s71)
set_option maxHeartbeats 4000000 in
theorem ml_finds1 {X : zX} {w : zWd} {m : Nat} {ad : Nat → Nat} {h0 : zH} {P : Option Value → zH → Prop} {PX : Nat → zH → Prop} (n : Nat) (a b : Int32) {v : Nat → Int32} (I : MI v n) (s0 : Int32 × mSt) (hv0 : ∀ i, (iterN (B_finds1 n a b) s0 i).2.2 9 = v) (E : zOK X w RX4 cX4_finds 6 4 87 [] none "finds") (kx : Z X w 6 (zQ X w P PX) (mS m ad h0 ((iterN (B_finds1 n a b) s0 6).2)) 0 0 [(0, .ref m), (1, .int a), (2, .int b), (3, .int ((iterN (B_finds1 n a b) s0 6).1)), (4, .int (nI 6))] 88 []) : ∀ d i, i + d = 6 → Z X w 6 (zQ X w P PX) (mS m ad h0 ((iterN (B_finds1 n a b) s0 i).2)) 0 0 [(0, .ref m), (1, .int a), (2, .int b), (3, .int ((iterN (B_finds1 n a b) s0 i).1)), (4, .int (nI i))] 15 [] := by
  intro d
  induction d with
  | zero =>
    intro i hi
    have hi : i = 6 := by omega
    rw [hi]
    refine z_iload E dX4_finds_15 4 rfl ?_
    refine z_bipush (v := 6) E dX4_finds_17 (by decide) ?_
    refine z_icmp_geN (a := 6) (b := 6) (tgt := 88) E (by omega) (by omega) dX4_finds_19 (by decide) (fun c19 => ?_) (fun c19 => absurd c19 (by omega))
    exact kx
  | succ d ih =>
    intro i hi
    have ih1 := ih (i + 1) (by omega)
    have hv := hv0 i
    have hn12 := I.2.1
    rw [iterN_s] at ih1
    generalize hs : iterN (B_finds1 n a b) s0 i = s at ih1 hv ⊢
    refine z_iload E dX4_finds_15 4 rfl ?_
    refine z_bipush (v := 6) E dX4_finds_17 (by decide) ?_
    refine z_icmp_geN (a := i) (b := 6) (tgt := 88) E (by omega) (by omega) dX4_finds_19 (by decide) (fun c19 => absurd c19 (by omega)) (fun c19 => ?_)
    refine z_aload_n E dX4_finds_22 rfl 0 rfl ?_
    refine m_get E 14 (by decide) rfl q1684 rfl dX4_finds_23 ?_
    refine z_iload E dX4_finds_26 4 rfl ?_
    refine z_iload_n E dX4_finds_28 rfl 2 rfl ?_
    have J29 : ∀ (j29_0 : Int32), j29_0 = (if b = 0 then (0 : Int32) else (a * (M_claim s.2 n i)) / b) → Z X w 6 (zQ X w P PX) (mS m ad h0 s.2) 0 0 [(0, .ref m), (1, .int a), (2, .int b), (3, .int s.1), (4, .int (nI i))] 46 [.int j29_0, .int (nI i), .ref (ad 14)] := by
      intro j29_0 ej29_0
      subst ej29_0
      refine m_ast E (j := 14) (q := i) (by decide) (by show _ < 6; omega) (by omega) dX4_finds_46 ?_
      generalize hs46 : setA s.2 14 i (if b = 0 then (0 : Int32) else (a * (M_claim s.2 n i)) / b) = s46
      refine z_aload_n E dX4_finds_47 rfl 0 rfl ?_
      refine m_get E 15 (by decide) rfl q1685 rfl dX4_finds_48 ?_
      refine z_iload E dX4_finds_51 4 rfl ?_
      refine z_iload_n E dX4_finds_53 rfl 2 rfl ?_
      have J54 : ∀ (j54_0 : Int32), j54_0 = (if b = 0 then (0 : Int32) else (a * (M_claim s46 n i)) - (a * (M_claim s46 n i)) / b * b) → Z X w 6 (zQ X w P PX) (mS m ad h0 s46) 0 0 [(0, .ref m), (1, .int a), (2, .int b), (3, .int s.1), (4, .int (nI i))] 71 [.int j54_0, .int (nI i), .ref (ad 15)] := by
        intro j54_0 ej54_0
        subst ej54_0
        refine m_ast E (j := 15) (q := i) (by decide) (by show _ < 6; omega) (by omega) dX4_finds_71 ?_
        generalize hs71 : setA s46 15 i (if b = 0 then (0 : Int32) else (a * (M_claim s46 n i)) - (a * (M_claim s46 n i)) / b * b) = s71
        refine z_iload_n E dX4_finds_72 rfl 3 rfl ?_
        refine z_aload_n E dX4_finds_73 rfl 0 rfl ?_
        refine m_get E 14 (by decide) rfl q1684 rfl dX4_finds_74 ?_
        refine z_iload E dX4_finds_77 4 rfl ?_
        refine m_ald E (j := 14) (q := i) (by decide) (by show _ < 6; omega) (by omega) dX4_finds_79 ?_
        refine z_isub E dX4_finds_80 ?_
        refine z_istore_n (lv' := [(3, .int (s.1 - (s71.2 14 i))), (0, .ref m), (1, .int a), (2, .int b), (4, .int (nI i))]) E dX4_finds_81 rfl (by decide) rfl ?_
        refine z_iinc (v := nI (i + 1)) (lv' := [(4, .int (nI (i + 1))), (3, .int (s.1 - (s71.2 14 i))), (0, .ref m), (1, .int a), (2, .int b)]) E dX4_finds_82 (j := 4) rfl (nI_add _ 1) (by decide) rfl ?_
        refine z_goto (tgt := 15) E dX4_finds_85 (by decide) ?_
        refine z_sub (lv' := [(0, .ref m), (1, .int a), (2, .int b), (3, .int (s.1 - (s71.2 14 i))), (4, .int (nI (i + 1)))]) [2, 3, 4, 1, 0] rfl ?_
        subst hs71 hs46
        exact ih1
      refine z_if_ne (tgt := 61) E dX4_finds_54 (by decide) (fun c54 => ?_) (fun c54 => ?_)
      · refine z_iload_n E dX4_finds_61 rfl 1 rfl ?_
        refine z_aload_n E dX4_finds_62 rfl 0 rfl ?_
        refine z_iload E dX4_finds_63 4 rfl ?_
        refine z_callVi E (rest := [.int a, .int (nI i), .ref (ad 15)]) (k' := 0) (n' := 0) cv_X4_claim (mm_X4_claim (σ := s46) n i ((by rw [← hs46]; exact (show MI (s.2.2 9) n from hv ▸ I))) (by omega)) q1869 rfl mS_o rfl rfl (Nat.le_of_ble_eq_true rfl) (Nat.le_of_ble_eq_true rfl) (Nat.le_of_ble_eq_true rfl) dX4_finds_65 (Nat.le_refl _) (Nat.le_refl _) ?_
        refine z_imul E dX4_finds_68 ?_
        refine z_iload_n E dX4_finds_69 rfl 2 rfl ?_
        refine z_irem E dX4_finds_70 (by assumption) ?_
        exact J54 _ ((if_neg c54).symm)
      · refine z_iconst (v := 0) E dX4_finds_57 (by decide) ?_
        refine z_goto (tgt := 71) E dX4_finds_58 (by decide) ?_
        exact J54 _ ((if_pos c54).symm)
    refine z_if_ne (tgt := 36) E dX4_finds_29 (by decide) (fun c29 => ?_) (fun c29 => ?_)
    · refine z_iload_n E dX4_finds_36 rfl 1 rfl ?_
      refine z_aload_n E dX4_finds_37 rfl 0 rfl ?_
      refine z_iload E dX4_finds_38 4 rfl ?_
      refine z_callVi E (rest := [.int a, .int (nI i), .ref (ad 14)]) (k' := 0) (n' := 0) cv_X4_claim (mm_X4_claim (σ := s.2) n i ((show MI (s.2.2 9) n from hv ▸ I)) (by omega)) q1869 rfl mS_o rfl rfl (Nat.le_of_ble_eq_true rfl) (Nat.le_of_ble_eq_true rfl) (Nat.le_of_ble_eq_true rfl) dX4_finds_40 (Nat.le_refl _) (Nat.le_refl _) ?_
      refine z_imul E dX4_finds_43 ?_
      refine z_iload_n E dX4_finds_44 rfl 2 rfl ?_
      refine z_idiv E dX4_finds_45 (by assumption) ?_
      exact J29 _ ((if_neg c29).symm)
    · refine z_iconst (v := 0) E dX4_finds_32 (by decide) ?_
      refine z_goto (tgt := 46) E dX4_finds_33 (by decide) ?_
      exact J29 _ ((if_pos c29).symm)
theorem iv_finds1 {n : Nat} {a b : Int32} {s0 : Int32 × mSt} {v : Nat → Int32} (h : s0.2.2 9 = v) : ∀ i, (iterN (B_finds1 n a b) s0 i).2.2 9 = v := by
  intro i
  induction i with
  | zero => exact h
  | succ i ih => rw [iterN_s]; exact ih
def B_finds3 (σ : mSt) (a b c : Int32) (i : Nat) (s : Nat) : Nat :=
  if (σ.2 15 (1 + i)) ≤ (σ.2 15 s) then s else (1 + i)
set_option maxHeartbeats 4000000 in
theorem ml_finds3 {X : zX} {w : zWd} {m : Nat} {ad : Nat → Nat} {h0 : zH} {σ : mSt} {P : Option Value → zH → Prop} {PX : Nat → zH → Prop} (a b c : Int32)  (s0 : Nat) (hb0 : ∀ i, i ≤ 5 → iterN (B_finds3 σ a b c) s0 i < 6) (E : zOK X w RX4 cX4_finds 6 4 87 [] none "finds") (kx : Z X w 6 (zQ X w P PX) (mS m ad h0 σ) 0 0 [(0, .ref m), (1, .int a), (2, .int b), (3, .int c), (4, .int (nI ((iterN (B_finds3 σ a b c) s0 5)))), (5, .int (nI (1 + 5)))] 136 []) : ∀ d i, i + d = 5 → Z X w 6 (zQ X w P PX) (mS m ad h0 σ) 0 0 [(0, .ref m), (1, .int a), (2, .int b), (3, .int c), (4, .int (nI ((iterN (B_finds3 σ a b c) s0 i)))), (5, .int (nI (1 + i)))] 102 [] := by
  intro d
  induction d with
  | zero =>
    intro i hi
    have hi : i = 5 := by omega
    rw [hi]
    refine z_iload E dX4_finds_102 5 rfl ?_
    refine z_bipush (v := 6) E dX4_finds_104 (by decide) ?_
    refine z_icmp_geN (a := 1 + 5) (b := 6) (tgt := 136) E (by omega) (by omega) dX4_finds_106 (by decide) (fun c106 => ?_) (fun c106 => absurd c106 (by omega))
    exact kx
  | succ d ih =>
    intro i hi
    have ih1 := ih (i + 1) (by omega)
    have hb := hb0 i (by omega)
    rw [iterN_s] at ih1
    generalize hs : iterN (B_finds3 σ a b c) s0 i = s at ih1 hb ⊢
    refine z_iload E dX4_finds_102 5 rfl ?_
    refine z_bipush (v := 6) E dX4_finds_104 (by decide) ?_
    refine z_icmp_geN (a := 1 + i) (b := 6) (tgt := 136) E (by omega) (by omega) dX4_finds_106 (by decide) (fun c106 => absurd c106 (by omega)) (fun c106 => ?_)
    refine z_aload_n E dX4_finds_109 rfl 0 rfl ?_
    refine m_get E 15 (by decide) rfl q1685 rfl dX4_finds_110 ?_
    refine z_iload E dX4_finds_113 5 rfl ?_
    refine m_ald E (j := 15) (q := 1 + i) (by decide) (by show _ < 6; omega) (by omega) dX4_finds_115 ?_
    refine z_aload_n E dX4_finds_116 rfl 0 rfl ?_
    refine m_get E 15 (by decide) rfl q1685 rfl dX4_finds_117 ?_
    refine z_iload E dX4_finds_120 4 rfl ?_
    refine m_ald E (j := 15) (q := s) (by decide) (by show _ < 6; omega) (by omega) dX4_finds_122 ?_
    have J123 : ∀ (j123_0 : Nat), j123_0 = (if (σ.2 15 (1 + i)) ≤ (σ.2 15 s) then s else (1 + i)) → Z X w 6 (zQ X w P PX) (mS m ad h0 σ) 0 0 [(0, .ref m), (1, .int a), (2, .int b), (3, .int c), (4, .int (nI j123_0)), (5, .int (nI (1 + i)))] 130 [] := by
      intro j123_0 ej123_0
      subst ej123_0
      refine z_iinc (v := nI (1 + i + 1)) (lv' := [(5, .int (nI (1 + i + 1))), (0, .ref m), (1, .int a), (2, .int b), (3, .int c), (4, .int (nI (if (σ.2 15 (1 + i)) ≤ (σ.2 15 s) then s else (1 + i))))]) E dX4_finds_130 (j := 5) rfl (nI_add _ 1) (by decide) rfl ?_
      refine z_goto (tgt := 102) E dX4_finds_133 (by decide) ?_
      refine z_sub (lv' := [(0, .ref m), (1, .int a), (2, .int b), (3, .int c), (4, .int (nI (if (σ.2 15 (1 + i)) ≤ (σ.2 15 s) then s else (1 + i)))), (5, .int (nI (1 + i + 1)))]) [1, 2, 3, 4, 5, 0] rfl ?_
      exact ih1
    refine z_icmp_le (tgt := 130) E dX4_finds_123 (by decide) (fun c123 => ?_) (fun c123 => ?_)
    · exact J123 _ ((if_pos c123).symm)
    · refine z_iload E dX4_finds_126 5 rfl ?_
      refine z_istore (lv' := [(4, .int (nI (1 + i))), (0, .ref m), (1, .int a), (2, .int b), (3, .int c), (5, .int (nI (1 + i)))]) E dX4_finds_128 (by decide) rfl ?_
      refine z_sub (lv' := [(0, .ref m), (1, .int a), (2, .int b), (3, .int c), (4, .int (nI (1 + i))), (5, .int (nI (1 + i)))]) [1, 2, 3, 4, 0, 5] rfl ?_
      exact J123 _ ((if_neg c123).symm)
theorem iv_finds3 {σ : mSt} {a b c : Int32} {s0 : Nat} (h : s0 < 6) : ∀ i, i ≤ 5 → iterN (B_finds3 σ a b c) s0 i < 6 := by
  intro i
  induction i with
  | zero => intro _; exact h
  | succ i ih =>
    intro hi
    rw [iterN_s]
    have h6 := ih (by omega)
    generalize iterN (B_finds3 σ a b c) s0 i = r at h6 ⊢
    unfold B_finds3
    split <;> omega
theorem dec_1 {e i : Nat} (h : i < e) : nI (e - i) + Int32.ofInt (-1) = nI (e - (i + 1)) := by
  rw [show Int32.ofInt (-1) = (-1 : Int32) from rfl, show e - i = (e - (i + 1)) + 1 by omega]
  exact pk_m1 _
def B_finds2 (e : Nat) (a b : Int32) (i : Nat) (s : mSt) : mSt :=
  let s146 := setA s 14 ((iterN (B_finds3 s a b (nI (e - i))) 0 5)) ((s.2 14 ((iterN (B_finds3 s a b (nI (e - i))) 0 5))) + 1)
  let s154 := setA s146 15 ((iterN (B_finds3 s a b (nI (e - i))) 0 5)) (-1)
  s154
set_option maxHeartbeats 4000000 in
theorem ml_finds2 {X : zX} {w : zWd} {m : Nat} {ad : Nat → Nat} {h0 : zH} {P : Option Value → zH → Prop} {PX : Nat → zH → Prop} (e : Nat) (a b : Int32) (he : e < 2147483648) (hall : 0 < b) (s0 : mSt)  (E : zOK X w RX4 cX4_finds 6 4 87 [] none "finds") (kx : Z X w 6 (zQ X w P PX) (mS m ad h0 ((iterN (B_finds2 e a b) s0 e))) 0 0 [(0, .ref m), (1, .int a), (2, .int b), (3, .int (nI (e - e)))] 161 []) : ∀ d i, i + d = e → Z X w 6 (zQ X w P PX) (mS m ad h0 ((iterN (B_finds2 e a b) s0 i))) 0 0 [(0, .ref m), (1, .int a), (2, .int b), (3, .int (nI (e - i)))] 88 [] := by
  intro d
  induction d with
  | zero =>
    intro i hi
    have hi : i = e := by omega
    rw [hi]
    refine z_iload_n E dX4_finds_88 rfl 3 rfl ?_
    refine z_if_leN (a := e - e) (tgt := 161) E (by omega) dX4_finds_89 (by decide) (fun c89 => ?_) (fun c89 => absurd c89 (by omega))
    exact kx
  | succ d ih =>
    intro i hi
    have ih1 := ih (i + 1) (by omega)
    rw [iterN_s] at ih1
    generalize hs : iterN (B_finds2 e a b) s0 i = s at ih1  ⊢
    refine z_iload_n E dX4_finds_88 rfl 3 rfl ?_
    refine z_if_leN (a := e - i) (tgt := 161) E (by omega) dX4_finds_89 (by decide) (fun c89 => absurd c89 (by omega)) (fun c89 => ?_)
    refine z_iload_n E dX4_finds_92 rfl 2 rfl ?_
    refine z_if_le (tgt := 161) E dX4_finds_93 (by decide) (fun c93 => absurd c93 (Int32.not_le.mpr hall)) (fun c93 => ?_)
    refine z_iconst (v := 0) E dX4_finds_96 (by decide) ?_
    refine z_istore (lv' := [(4, .int 0), (0, .ref m), (1, .int a), (2, .int b), (3, .int (nI (e - i)))]) E dX4_finds_97 (by decide) rfl ?_
    refine z_iconst (v := 1) E dX4_finds_99 (by decide) ?_
    refine z_istore (lv' := [(5, .int 1), (4, .int 0), (0, .ref m), (1, .int a), (2, .int b), (3, .int (nI (e - i)))]) E dX4_finds_100 (by decide) rfl ?_
    refine z_sub (lv' := [(0, .ref m), (1, .int a), (2, .int b), (3, .int (nI (e - i))), (4, .int 0), (5, .int 1)]) [2, 3, 4, 5, 1, 0] rfl ?_
    refine ml_finds3 a b (nI (e - i))  0 (iv_finds3 (by decide)) E ?_ 5 0 (by omega)
    have hb6 := iv_finds3 (σ := s) (a := a) (b := b) (c := (nI (e - i))) (s0 := 0) (by decide) 5 (by decide)
    refine z_aload_n E dX4_finds_136 rfl 0 rfl ?_
    refine m_get E 14 (by decide) rfl q1684 rfl dX4_finds_137 ?_
    refine z_iload E dX4_finds_140 4 rfl ?_
    refine z_dup2_11 E dX4_finds_142 rfl rfl ?_
    refine m_ald E (j := 14) (q := (iterN (B_finds3 s a b (nI (e - i))) 0 5)) (by decide) (by show _ < 6; omega) (by omega) dX4_finds_143 ?_
    refine z_iconst (v := 1) E dX4_finds_144 (by decide) ?_
    refine z_iadd E dX4_finds_145 ?_
    refine m_ast E (j := 14) (q := (iterN (B_finds3 s a b (nI (e - i))) 0 5)) (by decide) (by show _ < 6; omega) (by omega) dX4_finds_146 ?_
    generalize hs146 : setA s 14 ((iterN (B_finds3 s a b (nI (e - i))) 0 5)) ((s.2 14 ((iterN (B_finds3 s a b (nI (e - i))) 0 5))) + 1) = s146
    refine z_aload_n E dX4_finds_147 rfl 0 rfl ?_
    refine m_get E 15 (by decide) rfl q1685 rfl dX4_finds_148 ?_
    refine z_iload E dX4_finds_151 4 rfl ?_
    refine z_iconst (v := -1) E dX4_finds_153 (by decide) ?_
    refine m_ast E (j := 15) (q := (iterN (B_finds3 s a b (nI (e - i))) 0 5)) (by decide) (by show _ < 6; omega) (by omega) dX4_finds_154 ?_
    generalize hs154 : setA s146 15 ((iterN (B_finds3 s a b (nI (e - i))) 0 5)) (-1) = s154
    refine z_iinc (v := nI (e - (i + 1))) (lv' := [(3, .int (nI (e - (i + 1)))), (0, .ref m), (1, .int a), (2, .int b), (4, .int (nI ((iterN (B_finds3 s a b (nI (e - i))) 0 5)))), (5, .int (nI (1 + 5)))]) E dX4_finds_155 (j := 3) rfl (dec_1 (by omega)) (by decide) rfl ?_
    refine z_goto (tgt := 88) E dX4_finds_158 (by decide) ?_
    refine z_sub (lv' := [(0, .ref m), (1, .int a), (2, .int b), (3, .int (nI (e - (i + 1))))]) [1, 2, 3, 0] rfl ?_
    subst hs154 hs146
    exact ih1
theorem cv_X4_finds : zCV yX4_finds RX4 cX4_finds 6 none 0 := ⟨⟨q1875, qs56, q95, q1876⟩, by decide +kernel⟩
def M_finds (σ : mSt) (n e : Nat) : mSt :=
  let s15 := (iterN (B_finds1 n (M_pooled σ) (M_claims σ n)) (M_pooled σ, σ) 6).2
  if 0 < M_claims σ n then iterN (B_finds2 e (M_pooled σ) (M_claims σ n)) s15 e else s15
set_option maxHeartbeats 4000000 in
theorem mb_X4_finds {X : zX} {w : zWd} {m : Nat} {ad : Nat → Nat} {h0 : zH} {σ : mSt} {P : Option Value → zH → Prop} {PX : Nat → zH → Prop} (n e : Nat) (I : MI (σ.2 9) n) (he : 0 < M_claims σ n → (iterN (B_finds1 n (M_pooled σ) (M_claims σ n)) (M_pooled σ, σ) 6).1 = nI e) (he2 : e < 2147483648) (E : zOK X w RX4 cX4_finds 6 4 87 [] none "finds") (hP : ∀ s9 h9, s9 = M_finds σ n e → mS m ad h0 s9 h9 → P none h9) : Z X w 6 (zQ X w P PX) (mS m ad h0 σ) 0 0 [(0, .ref m)] 0 [] := by
  refine z_aload_n E dX4_finds_0 rfl 0 rfl ?_
  refine z_callVi E (rest := []) (k' := 0) (n' := 0) cv_X4_pooled (mm_X4_pooled (σ := σ) ) q1853 rfl mS_o rfl rfl (Nat.le_of_ble_eq_true rfl) (Nat.le_of_ble_eq_true rfl) (Nat.le_of_ble_eq_true rfl) dX4_finds_1 (Nat.le_refl _) (Nat.le_refl _) ?_
  refine z_istore_n (lv' := [(1, .int (M_pooled σ)), (0, .ref m)]) E dX4_finds_4 rfl (by decide) rfl ?_
  refine z_aload_n E dX4_finds_5 rfl 1 rfl ?_
  refine z_callVi E (rest := []) (k' := 0) (n' := 0) cv_X4_claims (mm_X4_claims (σ := σ) n (I)) q1865 rfl mS_o rfl rfl (Nat.le_of_ble_eq_true rfl) (Nat.le_of_ble_eq_true rfl) (Nat.le_of_ble_eq_true rfl) dX4_finds_6 (Nat.le_refl _) (Nat.le_refl _) ?_
  refine z_istore_n (lv' := [(2, .int (M_claims σ n)), (1, .int (M_pooled σ)), (0, .ref m)]) E dX4_finds_9 rfl (by decide) rfl ?_
  refine z_iload_n E dX4_finds_10 rfl 1 rfl ?_
  refine z_istore_n (lv' := [(3, .int (M_pooled σ)), (2, .int (M_claims σ n)), (1, .int (M_pooled σ)), (0, .ref m)]) E dX4_finds_11 rfl (by decide) rfl ?_
  refine z_iconst (v := 0) E dX4_finds_12 (by decide) ?_
  refine z_istore (lv' := [(4, .int 0), (3, .int (M_pooled σ)), (2, .int (M_claims σ n)), (1, .int (M_pooled σ)), (0, .ref m)]) E dX4_finds_13 (by decide) rfl ?_
  refine z_sub (lv' := [(0, .ref m), (1, .int (M_pooled σ)), (2, .int (M_claims σ n)), (3, .int (M_pooled σ)), (4, .int 0)]) [4, 3, 2, 1, 0] rfl ?_
  refine ml_finds1 n (M_pooled σ) (M_claims σ n) I (M_pooled σ, σ) (iv_finds1 rfl) E ?_ 6 0 (by omega)
  generalize hs15 : (iterN (B_finds1 n (M_pooled σ) (M_claims σ n)) (M_pooled σ, σ) 6).2 = s15
  by_cases hall : 0 < M_claims σ n
  · rw [he hall]
    refine z_sub (lv' := [(0, .ref m), (1, .int (M_pooled σ)), (2, .int (M_claims σ n)), (3, .int (nI e))]) [0, 1, 2, 3] rfl ?_
    refine ml_finds2 e (M_pooled σ) (M_claims σ n) he2 hall s15 E ?_ e 0 (by omega)
    exact z_vret E dX4_finds_161 (fun h9 q9 => hP _ h9 (by subst hs15; unfold M_finds; dsimp only; rw [if_pos hall]) q9)
  · refine z_iload_n E dX4_finds_88 rfl 3 rfl ?_
    refine z_if_le (tgt := 161) E dX4_finds_89 (by decide) (fun c89 => ?_) (fun c89 => ?_)
    · exact z_vret E dX4_finds_161 (fun h9 q9 => hP _ h9 (by subst hs15; unfold M_finds; dsimp only; rw [if_neg hall]) q9)
    · refine z_iload_n E dX4_finds_92 rfl 2 rfl ?_
      refine z_if_le (tgt := 161) E dX4_finds_93 (by decide) (fun c93 => ?_) (fun c93 => absurd (k2_lt c93) hall)
      exact z_vret E dX4_finds_161 (fun h9 q9 => hP _ h9 (by subst hs15; unfold M_finds; dsimp only; rw [if_neg hall]) q9)
theorem mm_X4_finds {l : Launch} {w : zWd} {m : Nat} {ad : Nat → Nat} {h0 : zH} {σ : mSt} (n e : Nat) (I : MI (σ.2 9) n) (he : 0 < M_claims σ n → (iterN (B_finds1 n (M_pooled σ) (M_claims σ n)) (M_pooled σ, σ) 6).1 = nI e) (he2 : e < 2147483648) : ZM l w yX4_finds (ws_ yX4_finds cX4_finds 6 none) 4 87 0 0 [.ref m] (mS m ad h0 σ) (zrv (mS m ad h0 (M_finds σ n e))) zno :=
  zm_of (by decide) rfl (Nat.le_of_ble_eq_true rfl) (fun X _ E => mb_X4_finds n e I he he2 E (fun s h e q => by subst e; exact ⟨rfl, q⟩))
