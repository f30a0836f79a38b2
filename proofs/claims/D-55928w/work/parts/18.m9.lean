set_option maxRecDepth 100000
theorem lays_1 {j1 j2 : Nat} {s : mSt} : ∀ i, (iterN (B_lays j1 j2) s i).1 = s.1 := by
  intro i
  induction i with
  | zero => rfl
  | succ i ih => rw [iterN_s]; exact ih
theorem begins_1 {σ : mSt} {f : Nat} (h : f ≠ 0) : (M_begins σ).1 f = σ.1 f := by
  show (iterN (B_lays 10 9) (setF σ 0 0) 126).1 f = _
  rw [lays_1, setF_1, if_neg h]
theorem cv_X4_stub : zCV yX4_stub RX4 cX4_stub 4 (some .int) 3 := ⟨⟨q1747, q1748, q95, q1749⟩, by decide +kernel⟩
def M_stub (σ : mSt) (n c : Nat) (h a b : Int32) : Int32 × mSt :=
  let s1 := M_begins σ
  let s9 := (M_comes s1 n h a b).2
  let s12 := (M_ends s9 c ((M_comes s1 n h a b).1)).2
  ((M_ends s9 c ((M_comes s1 n h a b).1)).1, s12)
set_option maxHeartbeats 4000000 in
theorem mb_X4_stub {X : zX} {w : zWd} {m : Nat} {ad : Nat → Nat} {h0 : zH} {σ : mSt} {P : Option Value → zH → Prop} {PX : Nat → zH → Prop} (n c : Nat) (h a b : Int32) (I : MI (σ.2 9) n) (hc : σ.1 1 = nI c) (hc8 : c ≤ 8) (E : zOK X w RX4 cX4_stub 4 4 93 [] (some .int) "stub") (hP : ∀ r9 s9 h9, (r9, s9) = M_stub σ n c h a b → mS m ad h0 s9 h9 → P (some (.int r9)) h9) : Z X w 4 (zQ X w P PX) (mS m ad h0 σ) 0 0 [(0, .ref m), (1, .int h), (2, .int a), (3, .int b)] 0 [] := by
  have hn12 := I.2.1
  refine z_aload_n E dX4_stub_0 rfl 0 rfl ?_
  refine z_callVv E (rest := []) (k' := 0) (n' := 0) cv_X4_begins (mm_X4_begins (σ := σ) ) q1750 rfl mS_o rfl rfl (Nat.le_of_ble_eq_true rfl) (Nat.le_of_ble_eq_true rfl) (Nat.le_of_ble_eq_true rfl) dX4_stub_1 (Nat.le_refl _) (Nat.le_refl _) ?_
  generalize hs1 : M_begins σ = s1
  refine z_aload_n E dX4_stub_4 rfl 0 rfl ?_
  refine z_aload_n E dX4_stub_5 rfl 0 rfl ?_
  refine z_iload_n E dX4_stub_6 rfl 1 rfl ?_
  refine z_iload_n E dX4_stub_7 rfl 2 rfl ?_
  refine z_iload_n E dX4_stub_8 rfl 3 rfl ?_
  refine z_callVi E (rest := [.ref m]) (k' := 0) (n' := 0) cv_X4_comes (mm_X4_comes (σ := s1) n h a b ((by rw [← hs1]; exact (I_begins I)))) q1757 rfl mS_o rfl rfl (Nat.le_of_ble_eq_true rfl) (Nat.le_of_ble_eq_true rfl) (Nat.le_of_ble_eq_true rfl) dX4_stub_9 (Nat.le_refl _) (Nat.le_refl _) ?_
  generalize hs9 : (M_comes s1 n h a b).2 = s9
  have hE : s9.1 1 = nI c := by rw [← hs9, (Fr_comes Fr_rf).1 1 (by decide), ← hs1, begins_1 (by decide)]; exact hc
  refine z_callVi E (rest := []) (k' := 0) (n' := 0) cv_X4_ends (mm_X4_ends (σ := s9) c ((M_comes s1 n h a b).1) (by assumption) (hc8)) q1793 rfl mS_o rfl rfl (Nat.le_of_ble_eq_true rfl) (Nat.le_of_ble_eq_true rfl) (Nat.le_of_ble_eq_true rfl) dX4_stub_12 (Nat.le_refl _) (Nat.le_refl _) ?_
  generalize hs12 : (M_ends s9 c ((M_comes s1 n h a b).1)).2 = s12
  exact z_iret E dX4_stub_15 (fun h9 q9 => hP _ _ h9 (by subst hs12 hs9 hs1; unfold M_stub; rfl) q9)
theorem mm_X4_stub {l : Launch} {w : zWd} {m : Nat} {ad : Nat → Nat} {h0 : zH} {σ : mSt} (n c : Nat) (h a b : Int32) (I : MI (σ.2 9) n) (hc : σ.1 1 = nI c) (hc8 : c ≤ 8) : ZM l w yX4_stub (ws_ yX4_stub cX4_stub 4 (some .int)) 4 93 0 0 [.ref m, .int h, .int a, .int b] (mS m ad h0 σ) (zri (M_stub σ n c h a b).1 (mS m ad h0 (M_stub σ n c h a b).2)) zno :=
  zm_of (by decide) rfl (Nat.le_of_ble_eq_true rfl) (fun X _ E => mb_X4_stub n c h a b I hc hc8 E (fun r s h e q => by rw [← e]; exact ⟨rfl, q⟩))
theorem cv_X4_burn : zCV yX4_burn RX4 cX4_burn 3 (some .int) 2 := ⟨⟨q1798, q1799, q95, q1800⟩, by decide +kernel⟩
def M_burn (σ : mSt) (n c : Nat) (h a : Int32) : Int32 × mSt :=
  let s1 := M_begins σ
  let s8 := (M_burns s1 n h a).2
  let s11 := (M_ends s8 c ((M_burns s1 n h a).1)).2
  ((M_ends s8 c ((M_burns s1 n h a).1)).1, s11)
set_option maxHeartbeats 4000000 in
theorem mb_X4_burn {X : zX} {w : zWd} {m : Nat} {ad : Nat → Nat} {h0 : zH} {σ : mSt} {P : Option Value → zH → Prop} {PX : Nat → zH → Prop} (n c : Nat) (h a : Int32) (I : MI (σ.2 9) n) (hc : σ.1 1 = nI c) (hc8 : c ≤ 8) (E : zOK X w RX4 cX4_burn 3 4 91 [] (some .int) "burn") (hP : ∀ r9 s9 h9, (r9, s9) = M_burn σ n c h a → mS m ad h0 s9 h9 → P (some (.int r9)) h9) : Z X w 3 (zQ X w P PX) (mS m ad h0 σ) 0 0 [(0, .ref m), (1, .int h), (2, .int a)] 0 [] := by
  have hn12 := I.2.1
  refine z_aload_n E dX4_burn_0 rfl 0 rfl ?_
  refine z_callVv E (rest := []) (k' := 0) (n' := 0) cv_X4_begins (mm_X4_begins (σ := σ) ) q1750 rfl mS_o rfl rfl (Nat.le_of_ble_eq_true rfl) (Nat.le_of_ble_eq_true rfl) (Nat.le_of_ble_eq_true rfl) dX4_burn_1 (Nat.le_refl _) (Nat.le_refl _) ?_
  generalize hs1 : M_begins σ = s1
  refine z_aload_n E dX4_burn_4 rfl 0 rfl ?_
  refine z_aload_n E dX4_burn_5 rfl 0 rfl ?_
  refine z_iload_n E dX4_burn_6 rfl 1 rfl ?_
  refine z_iload_n E dX4_burn_7 rfl 2 rfl ?_
  refine z_callVi E (rest := [.ref m]) (k' := 0) (n' := 0) cv_X4_burns (mm_X4_burns (σ := s1) n h a ((by rw [← hs1]; exact (I_begins I)))) q1801 rfl mS_o rfl rfl (Nat.le_of_ble_eq_true rfl) (Nat.le_of_ble_eq_true rfl) (Nat.le_of_ble_eq_true rfl) dX4_burn_8 (Nat.le_refl _) (Nat.le_refl _) ?_
  generalize hs8 : (M_burns s1 n h a).2 = s8
  have hE : s8.1 1 = nI c := by rw [← hs8, (Fr_burns Fr_rf).1 1 (by decide), ← hs1, begins_1 (by decide)]; exact hc
  refine z_callVi E (rest := []) (k' := 0) (n' := 0) cv_X4_ends (mm_X4_ends (σ := s8) c ((M_burns s1 n h a).1) (by assumption) (hc8)) q1793 rfl mS_o rfl rfl (Nat.le_of_ble_eq_true rfl) (Nat.le_of_ble_eq_true rfl) (Nat.le_of_ble_eq_true rfl) dX4_burn_11 (Nat.le_refl _) (Nat.le_refl _) ?_
  generalize hs11 : (M_ends s8 c ((M_burns s1 n h a).1)).2 = s11
  exact z_iret E dX4_burn_14 (fun h9 q9 => hP _ _ h9 (by subst hs11 hs8 hs1; unfold M_burn; rfl) q9)
theorem mm_X4_burn {l : Launch} {w : zWd} {m : Nat} {ad : Nat → Nat} {h0 : zH} {σ : mSt} (n c : Nat) (h a : Int32) (I : MI (σ.2 9) n) (hc : σ.1 1 = nI c) (hc8 : c ≤ 8) : ZM l w yX4_burn (ws_ yX4_burn cX4_burn 3 (some .int)) 4 91 0 0 [.ref m, .int h, .int a] (mS m ad h0 σ) (zri (M_burn σ n c h a).1 (mS m ad h0 (M_burn σ n c h a).2)) zno :=
  zm_of (by decide) rfl (Nat.le_of_ble_eq_true rfl) (fun X _ E => mb_X4_burn n c h a I hc hc8 E (fun r s h e q => by rw [← e]; exact ⟨rfl, q⟩))
theorem cv_X4_owe : zCV yX4_owe RX4 cX4_owe 4 (some .int) 3 := ⟨⟨q1818, q1819, q95, q1820⟩, by decide +kernel⟩
def M_owe (σ : mSt) (n c : Nat) (h a b : Int32) : Int32 × mSt :=
  let s1 := M_begins σ
  let s9 := (M_owes s1 n h a b).2
  let s12 := (M_ends s9 c ((M_owes s1 n h a b).1)).2
  ((M_ends s9 c ((M_owes s1 n h a b).1)).1, s12)
set_option maxHeartbeats 4000000 in
theorem mb_X4_owe {X : zX} {w : zWd} {m : Nat} {ad : Nat → Nat} {h0 : zH} {σ : mSt} {P : Option Value → zH → Prop} {PX : Nat → zH → Prop} (n c : Nat) (h a b : Int32) (I : MI (σ.2 9) n) (hc : σ.1 1 = nI c) (hc8 : c ≤ 8) (E : zOK X w RX4 cX4_owe 4 3 67 [] (some .int) "owe") (hP : ∀ r9 s9 h9, (r9, s9) = M_owe σ n c h a b → mS m ad h0 s9 h9 → P (some (.int r9)) h9) : Z X w 4 (zQ X w P PX) (mS m ad h0 σ) 0 0 [(0, .ref m), (1, .int h), (2, .int a), (3, .int b)] 0 [] := by
  have hn12 := I.2.1
  refine z_aload_n E dX4_owe_0 rfl 0 rfl ?_
  refine z_callVv E (rest := []) (k' := 0) (n' := 0) cv_X4_begins (mm_X4_begins (σ := σ) ) q1750 rfl mS_o rfl rfl (Nat.le_of_ble_eq_true rfl) (Nat.le_of_ble_eq_true rfl) (Nat.le_of_ble_eq_true rfl) dX4_owe_1 (Nat.le_refl _) (Nat.le_refl _) ?_
  generalize hs1 : M_begins σ = s1
  refine z_aload_n E dX4_owe_4 rfl 0 rfl ?_
  refine z_aload_n E dX4_owe_5 rfl 0 rfl ?_
  refine z_iload_n E dX4_owe_6 rfl 1 rfl ?_
  refine z_iload_n E dX4_owe_7 rfl 2 rfl ?_
  refine z_iload_n E dX4_owe_8 rfl 3 rfl ?_
  refine z_callVi E (rest := [.ref m]) (k' := 0) (n' := 0) cv_X4_owes (mm_X4_owes (σ := s1) n h a b ((by rw [← hs1]; exact (I_begins I)))) q1821 rfl mS_o rfl rfl (Nat.le_of_ble_eq_true rfl) (Nat.le_of_ble_eq_true rfl) (Nat.le_of_ble_eq_true rfl) dX4_owe_9 (Nat.le_refl _) (Nat.le_refl _) ?_
  generalize hs9 : (M_owes s1 n h a b).2 = s9
  have hE : s9.1 1 = nI c := by rw [← hs9, (Fr_owes Fr_rf).1 1 (by decide), ← hs1, begins_1 (by decide)]; exact hc
  refine z_callVi E (rest := []) (k' := 0) (n' := 0) cv_X4_ends (mm_X4_ends (σ := s9) c ((M_owes s1 n h a b).1) (by assumption) (hc8)) q1793 rfl mS_o rfl rfl (Nat.le_of_ble_eq_true rfl) (Nat.le_of_ble_eq_true rfl) (Nat.le_of_ble_eq_true rfl) dX4_owe_12 (Nat.le_refl _) (Nat.le_refl _) ?_
  generalize hs12 : (M_ends s9 c ((M_owes s1 n h a b).1)).2 = s12
  exact z_iret E dX4_owe_15 (fun h9 q9 => hP _ _ h9 (by subst hs12 hs9 hs1; unfold M_owe; rfl) q9)
theorem mm_X4_owe {l : Launch} {w : zWd} {m : Nat} {ad : Nat → Nat} {h0 : zH} {σ : mSt} (n c : Nat) (h a b : Int32) (I : MI (σ.2 9) n) (hc : σ.1 1 = nI c) (hc8 : c ≤ 8) : ZM l w yX4_owe (ws_ yX4_owe cX4_owe 4 (some .int)) 3 67 0 0 [.ref m, .int h, .int a, .int b] (mS m ad h0 σ) (zri (M_owe σ n c h a b).1 (mS m ad h0 (M_owe σ n c h a b).2)) zno :=
  zm_of (by decide) rfl (Nat.le_of_ble_eq_true rfl) (fun X _ E => mb_X4_owe n c h a b I hc hc8 E (fun r s h e q => by rw [← e]; exact ⟨rfl, q⟩))
theorem cv_X4_writ : zCV yX4_writ RX4 cX4_writ 4 (some .int) 3 := ⟨⟨q1830, q1831, q95, q1832⟩, by decide +kernel⟩
def M_writ (σ : mSt) (n c : Nat) (h a b : Int32) : Int32 × mSt :=
  let s1 := M_begins σ
  let s9 := (M_snuffs s1 n h a b).2
  let s12 := (M_ends s9 c ((M_snuffs s1 n h a b).1)).2
  ((M_ends s9 c ((M_snuffs s1 n h a b).1)).1, s12)
set_option maxHeartbeats 4000000 in
theorem mb_X4_writ {X : zX} {w : zWd} {m : Nat} {ad : Nat → Nat} {h0 : zH} {σ : mSt} {P : Option Value → zH → Prop} {PX : Nat → zH → Prop} (n c : Nat) (h a b : Int32) (I : MI (σ.2 9) n) (hc : σ.1 1 = nI c) (hc8 : c ≤ 8) (E : zOK X w RX4 cX4_writ 4 3 67 [] (some .int) "writ") (hP : ∀ r9 s9 h9, (r9, s9) = M_writ σ n c h a b → mS m ad h0 s9 h9 → P (some (.int r9)) h9) : Z X w 4 (zQ X w P PX) (mS m ad h0 σ) 0 0 [(0, .ref m), (1, .int h), (2, .int a), (3, .int b)] 0 [] := by
  have hn12 := I.2.1
  refine z_aload_n E dX4_writ_0 rfl 0 rfl ?_
  refine z_callVv E (rest := []) (k' := 0) (n' := 0) cv_X4_begins (mm_X4_begins (σ := σ) ) q1750 rfl mS_o rfl rfl (Nat.le_of_ble_eq_true rfl) (Nat.le_of_ble_eq_true rfl) (Nat.le_of_ble_eq_true rfl) dX4_writ_1 (Nat.le_refl _) (Nat.le_refl _) ?_
  generalize hs1 : M_begins σ = s1
  refine z_aload_n E dX4_writ_4 rfl 0 rfl ?_
  refine z_aload_n E dX4_writ_5 rfl 0 rfl ?_
  refine z_iload_n E dX4_writ_6 rfl 1 rfl ?_
  refine z_iload_n E dX4_writ_7 rfl 2 rfl ?_
  refine z_iload_n E dX4_writ_8 rfl 3 rfl ?_
  refine z_callVi E (rest := [.ref m]) (k' := 0) (n' := 0) cv_X4_snuffs (mm_X4_snuffs (σ := s1) n h a b ((by rw [← hs1]; exact (I_begins I)))) q1833 rfl mS_o rfl rfl (Nat.le_of_ble_eq_true rfl) (Nat.le_of_ble_eq_true rfl) (Nat.le_of_ble_eq_true rfl) dX4_writ_9 (Nat.le_refl _) (Nat.le_refl _) ?_
  generalize hs9 : (M_snuffs s1 n h a b).2 = s9
  have hE : s9.1 1 = nI c := by rw [← hs9, (Fr_snuffs Fr_rf).1 1 (by decide), ← hs1, begins_1 (by decide)]; exact hc
  refine z_callVi E (rest := []) (k' := 0) (n' := 0) cv_X4_ends (mm_X4_ends (σ := s9) c ((M_snuffs s1 n h a b).1) (by assumption) (hc8)) q1793 rfl mS_o rfl rfl (Nat.le_of_ble_eq_true rfl) (Nat.le_of_ble_eq_true rfl) (Nat.le_of_ble_eq_true rfl) dX4_writ_12 (Nat.le_refl _) (Nat.le_refl _) ?_
  generalize hs12 : (M_ends s9 c ((M_snuffs s1 n h a b).1)).2 = s12
  exact z_iret E dX4_writ_15 (fun h9 q9 => hP _ _ h9 (by subst hs12 hs9 hs1; unfold M_writ; rfl) q9)
theorem mm_X4_writ {l : Launch} {w : zWd} {m : Nat} {ad : Nat → Nat} {h0 : zH} {σ : mSt} (n c : Nat) (h a b : Int32) (I : MI (σ.2 9) n) (hc : σ.1 1 = nI c) (hc8 : c ≤ 8) : ZM l w yX4_writ (ws_ yX4_writ cX4_writ 4 (some .int)) 3 67 0 0 [.ref m, .int h, .int a, .int b] (mS m ad h0 σ) (zri (M_writ σ n c h a b).1 (mS m ad h0 (M_writ σ n c h a b).2)) zno :=
  zm_of (by decide) rfl (Nat.le_of_ble_eq_true rfl) (fun X _ E => mb_X4_writ n c h a b I hc hc8 E (fun r s h e q => by rw [← e]; exact ⟨rfl, q⟩))
theorem cv_X4_pool : zCV yX4_pool RX4 cX4_pool 3 (some .int) 2 := ⟨⟨q1846, q1847, q95, q1848⟩, by decide +kernel⟩
def M_pool (σ : mSt) (n c : Nat) (h a : Int32) : Int32 × mSt :=
  let s1 := M_begins σ
  let s8 := (M_pools s1 n h a).2
  let s11 := (M_ends s8 c ((M_pools s1 n h a).1)).2
  ((M_ends s8 c ((M_pools s1 n h a).1)).1, s11)
set_option maxHeartbeats 4000000 in
theorem mb_X4_pool {X : zX} {w : zWd} {m : Nat} {ad : Nat → Nat} {h0 : zH} {σ : mSt} {P : Option Value → zH → Prop} {PX : Nat → zH → Prop} (n c : Nat) (h a : Int32) (I : MI (σ.2 9) n) (hc : σ.1 1 = nI c) (hc8 : c ≤ 8) (E : zOK X w RX4 cX4_pool 3 3 66 [] (some .int) "pool") (hP : ∀ r9 s9 h9, (r9, s9) = M_pool σ n c h a → mS m ad h0 s9 h9 → P (some (.int r9)) h9) : Z X w 3 (zQ X w P PX) (mS m ad h0 σ) 0 0 [(0, .ref m), (1, .int h), (2, .int a)] 0 [] := by
  have hn12 := I.2.1
  refine z_aload_n E dX4_pool_0 rfl 0 rfl ?_
  refine z_callVv E (rest := []) (k' := 0) (n' := 0) cv_X4_begins (mm_X4_begins (σ := σ) ) q1750 rfl mS_o rfl rfl (Nat.le_of_ble_eq_true rfl) (Nat.le_of_ble_eq_true rfl) (Nat.le_of_ble_eq_true rfl) dX4_pool_1 (Nat.le_refl _) (Nat.le_refl _) ?_
  generalize hs1 : M_begins σ = s1
  refine z_aload_n E dX4_pool_4 rfl 0 rfl ?_
  refine z_aload_n E dX4_pool_5 rfl 0 rfl ?_
  refine z_iload_n E dX4_pool_6 rfl 1 rfl ?_
  refine z_iload_n E dX4_pool_7 rfl 2 rfl ?_
  refine z_callVi E (rest := [.ref m]) (k' := 0) (n' := 0) cv_X4_pools (mm_X4_pools (σ := s1) n h a ((by rw [← hs1]; exact (I_begins I)))) q1849 rfl mS_o rfl rfl (Nat.le_of_ble_eq_true rfl) (Nat.le_of_ble_eq_true rfl) (Nat.le_of_ble_eq_true rfl) dX4_pool_8 (Nat.le_refl _) (Nat.le_refl _) ?_
  generalize hs8 : (M_pools s1 n h a).2 = s8
  have hE : s8.1 1 = nI c := by rw [← hs8, (Fr_pools Fr_rf).1 1 (by decide), ← hs1, begins_1 (by decide)]; exact hc
  refine z_callVi E (rest := []) (k' := 0) (n' := 0) cv_X4_ends (mm_X4_ends (σ := s8) c ((M_pools s1 n h a).1) (by assumption) (hc8)) q1793 rfl mS_o rfl rfl (Nat.le_of_ble_eq_true rfl) (Nat.le_of_ble_eq_true rfl) (Nat.le_of_ble_eq_true rfl) dX4_pool_11 (Nat.le_refl _) (Nat.le_refl _) ?_
  generalize hs11 : (M_ends s8 c ((M_pools s1 n h a).1)).2 = s11
  exact z_iret E dX4_pool_14 (fun h9 q9 => hP _ _ h9 (by subst hs11 hs8 hs1; unfold M_pool; rfl) q9)
theorem mm_X4_pool {l : Launch} {w : zWd} {m : Nat} {ad : Nat → Nat} {h0 : zH} {σ : mSt} (n c : Nat) (h a : Int32) (I : MI (σ.2 9) n) (hc : σ.1 1 = nI c) (hc8 : c ≤ 8) : ZM l w yX4_pool (ws_ yX4_pool cX4_pool 3 (some .int)) 3 66 0 0 [.ref m, .int h, .int a] (mS m ad h0 σ) (zri (M_pool σ n c h a).1 (mS m ad h0 (M_pool σ n c h a).2)) zno :=
  zm_of (by decide) rfl (Nat.le_of_ble_eq_true rfl) (fun X _ E => mb_X4_pool n c h a I hc hc8 E (fun r s h e q => by rw [← e]; exact ⟨rfl, q⟩))
theorem cv_X4_mould : zCV yX4_mould RX4 cX4_mould 4 (some .int) 3 := ⟨⟨q1887, q1888, q95, q1889⟩, by decide +kernel⟩
def M_mould (σ : mSt) (n c : Nat) (h a b : Int32) : Int32 × mSt :=
  let s1 := M_begins σ
  let s9 := (M_moulds s1 n h a b).2
  let s12 := (M_ends s9 c ((M_moulds s1 n h a b).1)).2
  ((M_ends s9 c ((M_moulds s1 n h a b).1)).1, s12)
set_option maxHeartbeats 4000000 in
theorem mb_X4_mould {X : zX} {w : zWd} {m : Nat} {ad : Nat → Nat} {h0 : zH} {σ : mSt} {P : Option Value → zH → Prop} {PX : Nat → zH → Prop} (n c : Nat) (h a b : Int32) (I : MI (σ.2 9) n) (hc : σ.1 1 = nI c) (hc8 : c ≤ 8) (E : zOK X w RX4 cX4_mould 4 4 93 [] (some .int) "mould") (hP : ∀ r9 s9 h9, (r9, s9) = M_mould σ n c h a b → mS m ad h0 s9 h9 → P (some (.int r9)) h9) : Z X w 4 (zQ X w P PX) (mS m ad h0 σ) 0 0 [(0, .ref m), (1, .int h), (2, .int a), (3, .int b)] 0 [] := by
  have hn12 := I.2.1
  refine z_aload_n E dX4_mould_0 rfl 0 rfl ?_
  refine z_callVv E (rest := []) (k' := 0) (n' := 0) cv_X4_begins (mm_X4_begins (σ := σ) ) q1750 rfl mS_o rfl rfl (Nat.le_of_ble_eq_true rfl) (Nat.le_of_ble_eq_true rfl) (Nat.le_of_ble_eq_true rfl) dX4_mould_1 (Nat.le_refl _) (Nat.le_refl _) ?_
  generalize hs1 : M_begins σ = s1
  refine z_aload_n E dX4_mould_4 rfl 0 rfl ?_
  refine z_aload_n E dX4_mould_5 rfl 0 rfl ?_
  refine z_iload_n E dX4_mould_6 rfl 1 rfl ?_
  refine z_iload_n E dX4_mould_7 rfl 2 rfl ?_
  refine z_iload_n E dX4_mould_8 rfl 3 rfl ?_
  refine z_callVi E (rest := [.ref m]) (k' := 0) (n' := 0) cv_X4_moulds (mm_X4_moulds (σ := s1) n h a b ((by rw [← hs1]; exact (I_begins I)))) q1890 rfl mS_o rfl rfl (Nat.le_of_ble_eq_true rfl) (Nat.le_of_ble_eq_true rfl) (Nat.le_of_ble_eq_true rfl) dX4_mould_9 (Nat.le_refl _) (Nat.le_refl _) ?_
  generalize hs9 : (M_moulds s1 n h a b).2 = s9
  have hE : s9.1 1 = nI c := by rw [← hs9, (Fr_moulds Fr_rf).1 1 (by decide), ← hs1, begins_1 (by decide)]; exact hc
  refine z_callVi E (rest := []) (k' := 0) (n' := 0) cv_X4_ends (mm_X4_ends (σ := s9) c ((M_moulds s1 n h a b).1) (by assumption) (hc8)) q1793 rfl mS_o rfl rfl (Nat.le_of_ble_eq_true rfl) (Nat.le_of_ble_eq_true rfl) (Nat.le_of_ble_eq_true rfl) dX4_mould_12 (Nat.le_refl _) (Nat.le_refl _) ?_
  generalize hs12 : (M_ends s9 c ((M_moulds s1 n h a b).1)).2 = s12
  exact z_iret E dX4_mould_15 (fun h9 q9 => hP _ _ h9 (by subst hs12 hs9 hs1; unfold M_mould; rfl) q9)
theorem mm_X4_mould {l : Launch} {w : zWd} {m : Nat} {ad : Nat → Nat} {h0 : zH} {σ : mSt} (n c : Nat) (h a b : Int32) (I : MI (σ.2 9) n) (hc : σ.1 1 = nI c) (hc8 : c ≤ 8) : ZM l w yX4_mould (ws_ yX4_mould cX4_mould 4 (some .int)) 4 93 0 0 [.ref m, .int h, .int a, .int b] (mS m ad h0 σ) (zri (M_mould σ n c h a b).1 (mS m ad h0 (M_mould σ n c h a b).2)) zno :=
  zm_of (by decide) rfl (Nat.le_of_ble_eq_true rfl) (fun X _ E => mb_X4_mould n c h a b I hc hc8 E (fun r s h e q => by rw [← e]; exact ⟨rfl, q⟩))
theorem cv_X4_heir : zCV yX4_heir RX4 cX4_heir 3 (some .int) 2 := ⟨⟨q1895, q1896, q95, q1897⟩, by decide +kernel⟩
def M_heir (σ : mSt) (n c : Nat) (h a : Int32) : Int32 × mSt :=
  let s1 := M_begins σ
  let s8 := (M_tellsHeir s1 h a).2
  let s11 := (M_ends s8 c ((M_tellsHeir s1 h a).1)).2
  ((M_ends s8 c ((M_tellsHeir s1 h a).1)).1, s11)
set_option maxHeartbeats 4000000 in
theorem mb_X4_heir {X : zX} {w : zWd} {m : Nat} {ad : Nat → Nat} {h0 : zH} {σ : mSt} {P : Option Value → zH → Prop} {PX : Nat → zH → Prop} (n c : Nat) (h a : Int32) (I : MI (σ.2 9) n) (hc : σ.1 1 = nI c) (hc8 : c ≤ 8) (E : zOK X w RX4 cX4_heir 3 3 66 [] (some .int) "heir") (hP : ∀ r9 s9 h9, (r9, s9) = M_heir σ n c h a → mS m ad h0 s9 h9 → P (some (.int r9)) h9) : Z X w 3 (zQ X w P PX) (mS m ad h0 σ) 0 0 [(0, .ref m), (1, .int h), (2, .int a)] 0 [] := by
  have hn12 := I.2.1
  refine z_aload_n E dX4_heir_0 rfl 0 rfl ?_
  refine z_callVv E (rest := []) (k' := 0) (n' := 0) cv_X4_begins (mm_X4_begins (σ := σ) ) q1750 rfl mS_o rfl rfl (Nat.le_of_ble_eq_true rfl) (Nat.le_of_ble_eq_true rfl) (Nat.le_of_ble_eq_true rfl) dX4_heir_1 (Nat.le_refl _) (Nat.le_refl _) ?_
  generalize hs1 : M_begins σ = s1
  refine z_aload_n E dX4_heir_4 rfl 0 rfl ?_
  refine z_aload_n E dX4_heir_5 rfl 0 rfl ?_
  refine z_iload_n E dX4_heir_6 rfl 1 rfl ?_
  refine z_iload_n E dX4_heir_7 rfl 2 rfl ?_
  refine z_callVi E (rest := [.ref m]) (k' := 0) (n' := 0) cv_X4_tellsHeir (mm_X4_tellsHeir (σ := s1) h a) q1898 rfl mS_o rfl rfl (Nat.le_of_ble_eq_true rfl) (Nat.le_of_ble_eq_true rfl) (Nat.le_of_ble_eq_true rfl) dX4_heir_8 (Nat.le_refl _) (Nat.le_refl _) ?_
  generalize hs8 : (M_tellsHeir s1 h a).2 = s8
  have hE : s8.1 1 = nI c := by rw [← hs8, (Fr_tellsHeir Fr_rf).1 1 (by decide), ← hs1, begins_1 (by decide)]; exact hc
  refine z_callVi E (rest := []) (k' := 0) (n' := 0) cv_X4_ends (mm_X4_ends (σ := s8) c ((M_tellsHeir s1 h a).1) (by assumption) (hc8)) q1793 rfl mS_o rfl rfl (Nat.le_of_ble_eq_true rfl) (Nat.le_of_ble_eq_true rfl) (Nat.le_of_ble_eq_true rfl) dX4_heir_11 (Nat.le_refl _) (Nat.le_refl _) ?_
  generalize hs11 : (M_ends s8 c ((M_tellsHeir s1 h a).1)).2 = s11
  exact z_iret E dX4_heir_14 (fun h9 q9 => hP _ _ h9 (by subst hs11 hs8 hs1; unfold M_heir; rfl) q9)
theorem mm_X4_heir {l : Launch} {w : zWd} {m : Nat} {ad : Nat → Nat} {h0 : zH} {σ : mSt} (n c : Nat) (h a : Int32) (I : MI (σ.2 9) n) (hc : σ.1 1 = nI c) (hc8 : c ≤ 8) : ZM l w yX4_heir (ws_ yX4_heir cX4_heir 3 (some .int)) 3 66 0 0 [.ref m, .int h, .int a] (mS m ad h0 σ) (zri (M_heir σ n c h a).1 (mS m ad h0 (M_heir σ n c h a).2)) zno :=
  zm_of (by decide) rfl (Nat.le_of_ble_eq_true rfl) (fun X _ E => mb_X4_heir n c h a I hc hc8 E (fun r s h e q => by rw [← e]; exact ⟨rfl, q⟩))
theorem cv_X4_end : zCV yX4_end RX4 cX4_end 2 (some .int) 1 := ⟨⟨q1903, q1904, q95, q1905⟩, by decide +kernel⟩
def M_end (σ : mSt) (n c : Nat) (h : Int32) : Int32 × mSt :=
  let s1 := M_begins σ
  let s7 := (M_closes s1 n h).2
  let s10 := (M_ends s7 c ((M_closes s1 n h).1)).2
  ((M_ends s7 c ((M_closes s1 n h).1)).1, s10)
set_option maxHeartbeats 4000000 in
theorem mb_X4_end {X : zX} {w : zWd} {m : Nat} {ad : Nat → Nat} {h0 : zH} {σ : mSt} {P : Option Value → zH → Prop} {PX : Nat → zH → Prop} (n c : Nat) (h : Int32) (I : MI (σ.2 9) n) (hc : σ.1 1 = nI c) (hc8 : c ≤ 8) (E : zOK X w RX4 cX4_end 2 4 92 [] (some .int) "end") (hP : ∀ r9 s9 h9, (r9, s9) = M_end σ n c h → mS m ad h0 s9 h9 → P (some (.int r9)) h9) : Z X w 2 (zQ X w P PX) (mS m ad h0 σ) 0 0 [(0, .ref m), (1, .int h)] 0 [] := by
  have hn12 := I.2.1
  refine z_aload_n E dX4_end_0 rfl 0 rfl ?_
  refine z_callVv E (rest := []) (k' := 0) (n' := 0) cv_X4_begins (mm_X4_begins (σ := σ) ) q1750 rfl mS_o rfl rfl (Nat.le_of_ble_eq_true rfl) (Nat.le_of_ble_eq_true rfl) (Nat.le_of_ble_eq_true rfl) dX4_end_1 (Nat.le_refl _) (Nat.le_refl _) ?_
  generalize hs1 : M_begins σ = s1
  refine z_aload_n E dX4_end_4 rfl 0 rfl ?_
  refine z_aload_n E dX4_end_5 rfl 0 rfl ?_
  refine z_iload_n E dX4_end_6 rfl 1 rfl ?_
  refine z_callVi E (rest := [.ref m]) (k' := 0) (n' := 0) cv_X4_closes (mm_X4_closes (σ := s1) n h ((by rw [← hs1]; exact (I_begins I)))) q1906 rfl mS_o rfl rfl (Nat.le_of_ble_eq_true rfl) (Nat.le_of_ble_eq_true rfl) (Nat.le_of_ble_eq_true rfl) dX4_end_7 (Nat.le_refl _) (Nat.le_refl _) ?_
  generalize hs7 : (M_closes s1 n h).2 = s7
  have hE : s7.1 1 = nI c := by rw [← hs7, (Fr_closes Fr_rf).1 1 (by decide), ← hs1, begins_1 (by decide)]; exact hc
  refine z_callVi E (rest := []) (k' := 0) (n' := 0) cv_X4_ends (mm_X4_ends (σ := s7) c ((M_closes s1 n h).1) (by assumption) (hc8)) q1793 rfl mS_o rfl rfl (Nat.le_of_ble_eq_true rfl) (Nat.le_of_ble_eq_true rfl) (Nat.le_of_ble_eq_true rfl) dX4_end_10 (Nat.le_refl _) (Nat.le_refl _) ?_
  generalize hs10 : (M_ends s7 c ((M_closes s1 n h).1)).2 = s10
  exact z_iret E dX4_end_13 (fun h9 q9 => hP _ _ h9 (by subst hs10 hs7 hs1; unfold M_end; rfl) q9)
theorem mm_X4_end {l : Launch} {w : zWd} {m : Nat} {ad : Nat → Nat} {h0 : zH} {σ : mSt} (n c : Nat) (h : Int32) (I : MI (σ.2 9) n) (hc : σ.1 1 = nI c) (hc8 : c ≤ 8) : ZM l w yX4_end (ws_ yX4_end cX4_end 2 (some .int)) 4 92 0 0 [.ref m, .int h] (mS m ad h0 σ) (zri (M_end σ n c h).1 (mS m ad h0 (M_end σ n c h).2)) zno :=
  zm_of (by decide) rfl (Nat.le_of_ble_eq_true rfl) (fun X _ E => mb_X4_end n c h I hc hc8 E (fun r s h e q => by rw [← e]; exact ⟨rfl, q⟩))
theorem cv_X4_pass : zCV yX4_pass RX4 cX4_pass 2 (some .int) 1 := ⟨⟨q1927, q1928, q95, q1929⟩, by decide +kernel⟩
def M_pass (σ : mSt) (n c : Nat) (h : Int32) : Int32 × mSt :=
  let s1 := M_begins σ
  let s7 := (M_passes s1 n h).2
  let s10 := (M_ends s7 c ((M_passes s1 n h).1)).2
  ((M_ends s7 c ((M_passes s1 n h).1)).1, s10)
set_option maxHeartbeats 4000000 in
theorem mb_X4_pass {X : zX} {w : zWd} {m : Nat} {ad : Nat → Nat} {h0 : zH} {σ : mSt} {P : Option Value → zH → Prop} {PX : Nat → zH → Prop} (n c : Nat) (h : Int32) (I : MI (σ.2 9) n) (hc : σ.1 1 = nI c) (hc8 : c ≤ 8) (E : zOK X w RX4 cX4_pass 2 2 46 [] (some .int) "pass") (hP : ∀ r9 s9 h9, (r9, s9) = M_pass σ n c h → mS m ad h0 s9 h9 → P (some (.int r9)) h9) : Z X w 2 (zQ X w P PX) (mS m ad h0 σ) 0 0 [(0, .ref m), (1, .int h)] 0 [] := by
  have hn12 := I.2.1
  refine z_aload_n E dX4_pass_0 rfl 0 rfl ?_
  refine z_callVv E (rest := []) (k' := 0) (n' := 0) cv_X4_begins (mm_X4_begins (σ := σ) ) q1750 rfl mS_o rfl rfl (Nat.le_of_ble_eq_true rfl) (Nat.le_of_ble_eq_true rfl) (Nat.le_of_ble_eq_true rfl) dX4_pass_1 (Nat.le_refl _) (Nat.le_refl _) ?_
  generalize hs1 : M_begins σ = s1
  refine z_aload_n E dX4_pass_4 rfl 0 rfl ?_
  refine z_aload_n E dX4_pass_5 rfl 0 rfl ?_
  refine z_iload_n E dX4_pass_6 rfl 1 rfl ?_
  refine z_callVi E (rest := [.ref m]) (k' := 0) (n' := 0) cv_X4_passes (mm_X4_passes (σ := s1) n h ((by rw [← hs1]; exact (I_begins I)))) q1930 rfl mS_o rfl rfl (Nat.le_of_ble_eq_true rfl) (Nat.le_of_ble_eq_true rfl) (Nat.le_of_ble_eq_true rfl) dX4_pass_7 (Nat.le_refl _) (Nat.le_refl _) ?_
  generalize hs7 : (M_passes s1 n h).2 = s7
  have hE : s7.1 1 = nI c := by rw [← hs7, (Fr_passes Fr_rf).1 1 (by decide), ← hs1, begins_1 (by decide)]; exact hc
  refine z_callVi E (rest := []) (k' := 0) (n' := 0) cv_X4_ends (mm_X4_ends (σ := s7) c ((M_passes s1 n h).1) (by assumption) (hc8)) q1793 rfl mS_o rfl rfl (Nat.le_of_ble_eq_true rfl) (Nat.le_of_ble_eq_true rfl) (Nat.le_of_ble_eq_true rfl) dX4_pass_10 (Nat.le_refl _) (Nat.le_refl _) ?_
  generalize hs10 : (M_ends s7 c ((M_passes s1 n h).1)).2 = s10
  exact z_iret E dX4_pass_13 (fun h9 q9 => hP _ _ h9 (by subst hs10 hs7 hs1; unfold M_pass; rfl) q9)
theorem mm_X4_pass {l : Launch} {w : zWd} {m : Nat} {ad : Nat → Nat} {h0 : zH} {σ : mSt} (n c : Nat) (h : Int32) (I : MI (σ.2 9) n) (hc : σ.1 1 = nI c) (hc8 : c ≤ 8) : ZM l w yX4_pass (ws_ yX4_pass cX4_pass 2 (some .int)) 2 46 0 0 [.ref m, .int h] (mS m ad h0 σ) (zri (M_pass σ n c h).1 (mS m ad h0 (M_pass σ n c h).2)) zno :=
  zm_of (by decide) rfl (Nat.le_of_ble_eq_true rfl) (fun X _ E => mb_X4_pass n c h I hc hc8 E (fun r s h e q => by rw [← e]; exact ⟨rfl, q⟩))
