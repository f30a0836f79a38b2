set_option maxRecDepth 100000
/-- a stub gone: the later ones come one nearer -/
def dropv (v : Nat → Int32) (q : Nat) : Nat → Int32 := fun j => if j = 0 then v 0 - 1 else if 30 + 8 * q ≤ j ∧ j < 126 then (if j + 8 < 126 then v (j + 8) else 0) else v j
theorem goes_it {σ : mSt} {q : Nat} (hq : q < 12) : ∀ i, i ≤ 96 - 8 * q → iterN (B_goes q) σ i = putA σ 9 (fun j => if 30 + 8 * q ≤ j ∧ j < 30 + 8 * q + i then (if j + 8 < 126 then σ.2 9 (j + 8) else 0) else σ.2 9 j) := by
  intro i
  induction i with
  | zero =>
    intro _
    show σ = _
    refine Prod.ext rfl (funext fun k => funext fun j => ?_)
    by_cases hk : k = 9
    · subst hk
      simp only [putA, if_true]
      grind
    · simp only [putA, if_neg hk]
  | succ i ih =>
    intro hi
    rw [iterN_s, ih (by omega)]
    refine Prod.ext rfl (funext fun k => funext fun j => ?_)
    by_cases hk : k = 9
    · subst hk
      simp only [B_goes, setA, putA, if_true, upd]
      grind
    · simp only [B_goes, setA, putA, if_neg hk]
theorem goes_v {σ : mSt} {q : Nat} (hq : q < 12) : M_goes σ q = putA σ 9 (dropv (σ.2 9) q) := by
  unfold M_goes
  dsimp only
  rw [goes_it hq _ (Nat.le_refl _)]
  refine Prod.ext rfl (funext fun k => funext fun j => ?_)
  by_cases hk : k = 9
  · subst hk
    simp only [setA, putA, if_true, upd, dropv]
    grind
  · simp only [setA, putA, if_neg hk]
theorem I_drop {v : Nat → Int32} {n q : Nat} (I : MI v n) (hq : q < n) : MI (dropv v q) (n - 1) := by
  obtain ⟨a, b, c, d, e⟩ := I
  refine ⟨?_, by omega, fun k hk => ?_, fun s hs => ?_, fun k hk => ?_⟩
  · show v 0 - 1 = nI (n - 1)
    rw [a, show n = (n - 1) + 1 by omega]
    exact nI_pred _
  · obtain ⟨j, hj, h⟩ := c k hk
    refine ⟨j, hj, ?_⟩
    unfold dropv
    rw [if_neg (by omega), if_neg (by omega)]
    exact h
  · unfold dropv
    by_cases h1 : s < q
    · obtain ⟨j, hj, h⟩ := d s (by omega)
      refine ⟨j, hj, ?_⟩
      rw [if_neg (by omega), if_neg (by omega)]
      exact h
    · obtain ⟨j, hj, h⟩ := d (s + 1) (by omega)
      refine ⟨j, hj, ?_⟩
      rw [if_neg (by omega), if_pos (by omega), if_pos (by omega)]
      rw [← h]
      exact congrArg v (by omega)
  · unfold dropv
    rw [if_neg (by omega), if_neg (by omega)]
    exact e k hk
theorem I_goes {σ : mSt} {n q : Nat} (I : MI (σ.2 9) n) (hq : q < n) : MI ((M_goes σ q).2 9) (n - 1) := by
  rw [goes_v (Nat.lt_of_lt_of_le hq I.2.1)]
  exact I_drop I hq
theorem MI_of_set {v : Nat → Int32} {n q a : Nat} (I : MI v n) (hq : q < n) (ha : a < 6) : MI (upd v (30 + 8 * q + 0) (nI a)) n := by
  obtain ⟨h1, b, c, d, e⟩ := I
  refine ⟨by rw [pk_un (by omega)]; exact h1, b, fun k hk => ?_, fun s hs => ?_, fun k hk => ?_⟩
  · rw [pk_un (by omega)]; exact c k hk
  · by_cases z : s = q
    · subst z; exact ⟨a, ha, pk_us⟩
    · rw [pk_un (by omega)]; exact d s hs
  · rw [pk_un (by omega)]; exact e k hk
/-- the stubs of a house go to its heir, or are melted -/
def F_inh (h t : Nat) : Nat → mSt → Nat → Nat → Nat → mSt × Nat
  | 0, σ, _, _, k => (σ, k)
  | d + 1, σ, s, n, k => if σ.2 9 (30 + 8 * s + 0) = nI h then
      (if 60 < M_tray σ n (nI t) + σ.2 9 (30 + 8 * s + 1) + 1 then F_inh h t d (M_goes (setA σ 9 (6 + 4 * t + 2) (σ.2 9 (6 + 4 * t + 2) + σ.2 9 (30 + 8 * s + 1))) s) s (n - 1) (k + 1)
      else F_inh h t d (setA σ 9 (30 + 8 * s + 0) (nI t)) (s + 1) n k)
    else F_inh h t d σ (s + 1) n k
theorem dec_i {k : Nat} : nI k + Int32.ofInt 1 = nI (k + 1) := nI_add k 1

theorem cv_X4_inheritsStubs : zCV yX4_inheritsStubs RX4 cX4_inheritsStubs 6 (some .int) 2 := ⟨⟨q1920, qs62, q95, q1921⟩, by decide +kernel⟩
set_option maxHeartbeats 4000000 in
theorem ml_inh {X : zX} {w : zWd} {m : Nat} {ad : Nat → Nat} {h0 : zH} {P : Option Value → zH → Prop} {PX : Nat → zH → Prop} {h t : Nat} (hh : h < 6) (ht : t < 6) (E : zOK X w RX4 cX4_inheritsStubs 6 2 44 [] (some .int) "inheritsStubs") : ∀ d σ s n k, s + d = n → MI (σ.2 9) n → k + d < 100 → (∀ s9 k9 h9, (s9, k9) = F_inh h t d σ s n k → mS m ad h0 s9 h9 → P (some (.int (nI k9))) h9) → Z X w 6 (zQ X w P PX) (mS m ad h0 σ) 0 0 [(0, .ref m), (1, .int (nI h)), (2, .int (nI t)), (3, .int (nI k)), (4, .int (nI s))] 5 [] := by
  intro d
  induction d with
  | zero =>
    intro σ s n k hs I hk hr
    have hn12 := I.2.1
    have hs : s = n := by omega
    subst hs
    refine z_iload E dX4_inheritsStubs_5 4 rfl ?_
    refine z_aload_n E dX4_inheritsStubs_7 rfl 0 rfl ?_
    refine m_get E 9 (by decide) rfl q1679 rfl dX4_inheritsStubs_8 ?_
    refine z_iconst (v := 0) E dX4_inheritsStubs_11 (by decide) ?_
    refine m_ald E (j := 9) (q := 0) (by decide) (by show _ < 126; omega) (by omega) dX4_inheritsStubs_12 ?_
    refine z_top (I.1) ?_
    refine z_icmp_geN (a := s) (b := s) (tgt := 110) E (by omega) (by omega) dX4_inheritsStubs_13 (by decide) (fun c13 => ?_) (fun c13 => absurd c13 (by omega))
    refine z_iload_n E dX4_inheritsStubs_110 rfl 3 rfl ?_
    exact z_iret E dX4_inheritsStubs_111 (fun h9 q9 => hr _ _ h9 rfl q9)
  | succ d ih =>
    intro σ s n k hs I hk hr
    have hn12 := I.2.1
    refine z_iload E dX4_inheritsStubs_5 4 rfl ?_
    refine z_aload_n E dX4_inheritsStubs_7 rfl 0 rfl ?_
    refine m_get E 9 (by decide) rfl q1679 rfl dX4_inheritsStubs_8 ?_
    refine z_iconst (v := 0) E dX4_inheritsStubs_11 (by decide) ?_
    refine m_ald E (j := 9) (q := 0) (by decide) (by show _ < 126; omega) (by omega) dX4_inheritsStubs_12 ?_
    refine z_top (I.1) ?_
    refine z_icmp_geN (a := s) (b := n) (tgt := 110) E (by omega) (by omega) dX4_inheritsStubs_13 (by decide) (fun c13 => absurd c13 (by omega)) (fun c13 => ?_)
    refine z_aload_n E dX4_inheritsStubs_16 rfl 0 rfl ?_
    refine m_get E 9 (by decide) rfl q1679 rfl dX4_inheritsStubs_17 ?_
    refine z_iload E dX4_inheritsStubs_20 4 rfl ?_
    refine z_iconst (v := 1) E dX4_inheritsStubs_22 (by decide) ?_
    refine z_callSi E (rest := [.ref (ad 9)]) (k' := 0) (n' := 0) cs_X4_in (mm_X4_in s 1) q1790 rfl rfl (Nat.le_of_ble_eq_true rfl) (Nat.le_of_ble_eq_true rfl) (Nat.le_of_ble_eq_true rfl) dX4_inheritsStubs_23 (Nat.le_refl _) (Nat.le_refl _) ?_
    refine m_ald E (j := 9) (q := 30 + 8 * s + 1) (by decide) (by show _ < 126; omega) (by omega) dX4_inheritsStubs_26 ?_
    refine z_istore (lv' := [(5, .int (σ.2 9 (30 + 8 * s + 1))), (0, .ref m), (1, .int (nI h)), (2, .int (nI t)), (3, .int (nI k)), (4, .int (nI s))]) E dX4_inheritsStubs_27 (by decide) rfl ?_
    refine z_aload_n E dX4_inheritsStubs_29 rfl 1 rfl ?_
    refine m_get E 9 (by decide) rfl q1679 rfl dX4_inheritsStubs_30 ?_
    refine z_iload E dX4_inheritsStubs_33 5 rfl ?_
    refine z_iconst (v := 0) E dX4_inheritsStubs_35 (by decide) ?_
    refine z_callSi E (rest := [.ref (ad 9)]) (k' := 0) (n' := 0) cs_X4_in (mm_X4_in s 0) q1790 rfl rfl (Nat.le_of_ble_eq_true rfl) (Nat.le_of_ble_eq_true rfl) (Nat.le_of_ble_eq_true rfl) dX4_inheritsStubs_36 (Nat.le_refl _) (Nat.le_refl _) ?_
    refine m_ald E (j := 9) (q := 30 + 8 * s + 0) (by decide) (by show _ < 126; omega) (by omega) dX4_inheritsStubs_39 ?_
    refine z_iload_n E dX4_inheritsStubs_40 rfl 2 rfl ?_
    refine z_icmp_eq (tgt := 50) E dX4_inheritsStubs_41 (by decide) (fun c41 => ?_) (fun c41 => ?_)
    · refine z_aload_n E dX4_inheritsStubs_50 rfl 1 rfl ?_
      refine z_iload_n E dX4_inheritsStubs_51 rfl 3 rfl ?_
      refine z_callVi E (rest := []) (k' := 0) (n' := 0) cv_X4_tray (mm_X4_tray (σ := σ) n (nI t) (I)) q1786 rfl mS_o rfl rfl (Nat.le_of_ble_eq_true rfl) (Nat.le_of_ble_eq_true rfl) (Nat.le_of_ble_eq_true rfl) dX4_inheritsStubs_52 (Nat.le_refl _) (Nat.le_refl _) ?_
      refine z_iload E dX4_inheritsStubs_55 0 rfl ?_
      refine z_iadd E dX4_inheritsStubs_57 ?_
      refine z_iconst (v := 1) E dX4_inheritsStubs_58 (by decide) ?_
      refine z_iadd E dX4_inheritsStubs_59 ?_
      refine z_bipush (v := 60) E dX4_inheritsStubs_60 (by decide) ?_
      refine z_icmp_gt (tgt := 83) E dX4_inheritsStubs_62 (by decide) (fun c62 => ?_) (fun c62 => ?_)
      · refine z_aload_n E dX4_inheritsStubs_83 rfl 1 rfl ?_
        refine m_get E 9 (by decide) rfl q1679 rfl dX4_inheritsStubs_84 ?_
        refine z_iload_n E dX4_inheritsStubs_87 rfl 3 rfl ?_
        refine z_iconst (v := 2) E dX4_inheritsStubs_88 (by decide) ?_
        refine z_callSi E (rest := [.ref (ad 9)]) (k' := 0) (n' := 0) cs_X4_at (mm_X4_at t 2) q1667 rfl rfl (Nat.le_of_ble_eq_true rfl) (Nat.le_of_ble_eq_true rfl) (Nat.le_of_ble_eq_true rfl) dX4_inheritsStubs_89 (Nat.le_refl _) (Nat.le_refl _) ?_
        refine z_dup2_11 E dX4_inheritsStubs_92 rfl rfl ?_
        refine m_ald E (j := 9) (q := 6 + 4 * t + 2) (by decide) (by show _ < 126; omega) (by omega) dX4_inheritsStubs_93 ?_
        refine z_iload E dX4_inheritsStubs_94 0 rfl ?_
        refine z_iadd E dX4_inheritsStubs_96 ?_
        refine m_ast E (j := 9) (q := 6 + 4 * t + 2) (by decide) (by show _ < 126; omega) (by omega) dX4_inheritsStubs_97 ?_
        generalize hs97 : setA σ 9 (6 + 4 * t + 2) ((σ.2 9 (6 + 4 * t + 2)) + (σ.2 9 (30 + 8 * s + 1))) = s97
        refine z_aload_n E dX4_inheritsStubs_98 rfl 1 rfl ?_
        refine z_iload E dX4_inheritsStubs_99 5 rfl ?_
        refine z_callVv E (rest := []) (k' := 0) (n' := 0) cv_X4_goes (mm_X4_goes (σ := s97) s (by omega)) q1813 rfl mS_o rfl rfl (Nat.le_of_ble_eq_true rfl) (Nat.le_of_ble_eq_true rfl) (Nat.le_of_ble_eq_true rfl) dX4_inheritsStubs_101 (Nat.le_refl _) (Nat.le_refl _) ?_
        generalize hs101 : M_goes s97 s = s101
        refine z_iinc (v := nI (k + 1)) (lv' := [(3, .int (nI (k + 1))), (5, .int (σ.2 9 (30 + 8 * s + 1))), (0, .ref m), (1, .int (nI h)), (2, .int (nI t)), (4, .int (nI s))]) E dX4_inheritsStubs_104 (j := 4) rfl (nI_add _ 1) (by decide) rfl ?_
        refine z_goto (tgt := 5) E dX4_inheritsStubs_107 (by decide) ?_
        refine z_sub (lv' := [(0, .ref m), (1, .int (nI h)), (2, .int (nI t)), (3, .int (nI (k + 1))), (4, .int (nI s))]) [2, 3, 4, 0, 5] rfl ?_
        subst hs101 hs97
        exact ih _ s (n - 1) (k + 1) (by omega) (I_goes (MI_k I (by omega) (fun _ _ => by omega) (fun _ _ => by omega) (fun _ _ => by omega)) (by omega)) (by omega) (fun s9 k9 h9 e q => hr s9 k9 h9 (by rw [F_inh, if_pos c41, if_pos c62]; exact e) q)
      · refine z_aload_n E dX4_inheritsStubs_65 rfl 1 rfl ?_
        refine m_get E 9 (by decide) rfl q1679 rfl dX4_inheritsStubs_66 ?_
        refine z_iload E dX4_inheritsStubs_69 5 rfl ?_
        refine z_iconst (v := 0) E dX4_inheritsStubs_71 (by decide) ?_
        refine z_callSi E (rest := [.ref (ad 9)]) (k' := 0) (n' := 0) cs_X4_in (mm_X4_in s 0) q1790 rfl rfl (Nat.le_of_ble_eq_true rfl) (Nat.le_of_ble_eq_true rfl) (Nat.le_of_ble_eq_true rfl) dX4_inheritsStubs_72 (Nat.le_refl _) (Nat.le_refl _) ?_
        refine z_iload_n E dX4_inheritsStubs_75 rfl 3 rfl ?_
        refine m_ast E (j := 9) (q := 30 + 8 * s + 0) (by decide) (by show _ < 126; omega) (by omega) dX4_inheritsStubs_76 ?_
        generalize hs76 : setA σ 9 (30 + 8 * s + 0) (nI t) = s76
        refine z_iinc (v := nI (s + 1)) (lv' := [(4, .int (nI (s + 1))), (5, .int (σ.2 9 (30 + 8 * s + 1))), (0, .ref m), (1, .int (nI h)), (2, .int (nI t)), (3, .int (nI k))]) E dX4_inheritsStubs_77 (j := 5) rfl (nI_add _ 1) (by decide) rfl ?_
        refine z_goto (tgt := 107) E dX4_inheritsStubs_80 (by decide) ?_
        refine z_goto (tgt := 5) E dX4_inheritsStubs_107 (by decide) ?_
        refine z_sub (lv' := [(0, .ref m), (1, .int (nI h)), (2, .int (nI t)), (3, .int (nI k)), (4, .int (nI (s + 1)))]) [2, 3, 4, 5, 0] rfl ?_
        subst hs76
        exact ih _ (s + 1) n k (by omega) (MI_of_set I (by omega) ht) (by omega) (fun s9 k9 h9 e q => hr s9 k9 h9 (by rw [F_inh, if_pos c41, if_neg c62]; exact e) q)
    · refine z_iinc (v := nI (s + 1)) (lv' := [(4, .int (nI (s + 1))), (5, .int (σ.2 9 (30 + 8 * s + 1))), (0, .ref m), (1, .int (nI h)), (2, .int (nI t)), (3, .int (nI k))]) E dX4_inheritsStubs_44 (j := 5) rfl (nI_add _ 1) (by decide) rfl ?_
      refine z_goto (tgt := 107) E dX4_inheritsStubs_47 (by decide) ?_
      refine z_goto (tgt := 5) E dX4_inheritsStubs_107 (by decide) ?_
      refine z_sub (lv' := [(0, .ref m), (1, .int (nI h)), (2, .int (nI t)), (3, .int (nI k)), (4, .int (nI (s + 1)))]) [2, 3, 4, 5, 0] rfl ?_
      exact ih _ (s + 1) n k (by omega) I (by omega) (fun s9 k9 h9 e q => hr s9 k9 h9 (by rw [F_inh, if_neg c41]; exact e) q)
set_option maxHeartbeats 4000000 in
theorem mm_X4_inheritsStubs {l : Launch} {w : zWd} {m : Nat} {ad : Nat → Nat} {h0 : zH} {σ : mSt} {n : Nat} (h t : Nat) (I : MI (σ.2 9) n) (hh : h < 6) (ht : t < 6) : ZM l w yX4_inheritsStubs (ws_ yX4_inheritsStubs cX4_inheritsStubs 6 (some .int)) 2 44 0 0 [.ref m, .int (nI h), .int (nI t)] (mS m ad h0 σ) (zri (nI (F_inh h t n σ 0 n 0).2) (mS m ad h0 (F_inh h t n σ 0 n 0).1)) zno := by
  refine zm_of (by decide) rfl (Nat.le_of_ble_eq_true rfl) (fun X _ E => ?_)
  have hn12 := I.2.1
  refine z_iconst (v := 0) E dX4_inheritsStubs_0 (by decide) ?_
  refine z_istore_n (lv' := [(3, .int 0), (0, .ref m), (1, .int (nI h)), (2, .int (nI t))]) E dX4_inheritsStubs_1 rfl (by decide) rfl ?_
  refine z_iconst (v := 0) E dX4_inheritsStubs_2 (by decide) ?_
  refine z_istore (lv' := [(4, .int 0), (3, .int 0), (0, .ref m), (1, .int (nI h)), (2, .int (nI t))]) E dX4_inheritsStubs_3 (by decide) rfl ?_
  refine z_sub (lv' := [(0, .ref m), (1, .int (nI h)), (2, .int (nI t)), (3, .int 0), (4, .int 0)]) [2, 3, 4, 1, 0] rfl ?_
  exact ml_inh hh ht E n σ 0 n 0 (by omega) I (by omega) (fun s9 k9 h9 e q => by rw [← e]; exact ⟨rfl, q⟩)
