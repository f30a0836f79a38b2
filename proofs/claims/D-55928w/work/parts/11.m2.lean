set_option maxRecDepth 100000
theorem mset_0 {ad : Nat → Nat} {σ : mSt} {x : Int32} : (mfs ad σ).set 0 (.int x) = mfs ad (setF σ 0 x) := rfl
theorem mset_1 {ad : Nat → Nat} {σ : mSt} {x : Int32} : (mfs ad σ).set 1 (.int x) = mfs ad (setF σ 1 x) := rfl
theorem mset_2 {ad : Nat → Nat} {σ : mSt} {x : Int32} : (mfs ad σ).set 2 (.int x) = mfs ad (setF σ 2 x) := rfl
theorem mset_3 {ad : Nat → Nat} {σ : mSt} {x : Int32} : (mfs ad σ).set 3 (.int x) = mfs ad (setF σ 3 x) := rfl
theorem mset_4 {ad : Nat → Nat} {σ : mSt} {x : Int32} : (mfs ad σ).set 4 (.int x) = mfs ad (setF σ 4 x) := rfl
theorem mset_5 {ad : Nat → Nat} {σ : mSt} {x : Int32} : (mfs ad σ).set 5 (.int x) = mfs ad (setF σ 5 x) := rfl
theorem mset_6 {ad : Nat → Nat} {σ : mSt} {x : Int32} : (mfs ad σ).set 6 (.int x) = mfs ad (setF σ 6 x) := rfl
theorem mset_7 {ad : Nat → Nat} {σ : mSt} {x : Int32} : (mfs ad σ).set 7 (.int x) = mfs ad (setF σ 7 x) := rfl
theorem mset_8 {ad : Nat → Nat} {σ : mSt} {x : Int32} : (mfs ad σ).set 8 (.int x) = mfs ad (setF σ 8 x) := rfl
theorem mset_16 {ad : Nat → Nat} {σ : mSt} {x : Int32} : (mfs ad σ).set 16 (.int x) = mfs ad (setF σ 16 x) := rfl
theorem mset_19 {ad : Nat → Nat} {σ : mSt} {x : Int32} : (mfs ad σ).set 19 (.int x) = mfs ad (setF σ 19 x) := rfl
theorem mset_20 {ad : Nat → Nat} {σ : mSt} {x : Int32} : (mfs ad σ).set 20 (.int x) = mfs ad (setF σ 20 x) := rfl
theorem mset_21 {ad : Nat → Nat} {σ : mSt} {x : Int32} : (mfs ad σ).set 21 (.int x) = mfs ad (setF σ 21 x) := rfl
theorem mset_22 {ad : Nat → Nat} {σ : mSt} {x : Int32} : (mfs ad σ).set 22 (.int x) = mfs ad (setF σ 22 x) := rfl
theorem mset_23 {ad : Nat → Nat} {σ : mSt} {x : Int32} : (mfs ad σ).set 23 (.int x) = mfs ad (setF σ 23 x) := rfl
theorem mset_24 {ad : Nat → Nat} {σ : mSt} {x : Int32} : (mfs ad σ).set 24 (.int x) = mfs ad (setF σ 24 x) := rfl
def iterN {α : Type} (f : Nat → α → α) (s : α) : Nat → α
  | 0 => s
  | i + 1 => f i (iterN f s i)
theorem iterN_s {α : Type} (f : Nat → α → α) (s : α) (i : Nat) : iterN f s (i + 1) = f i (iterN f s i) := rfl
def zB (v : Int32) : Prop := v = 0 ∨ v = 1
theorem zB_0 : zB 0 := Or.inl rfl
theorem zB_1 : zB 1 := Or.inr rfl
theorem zB_ite {c : Prop} [Decidable c] {a b : Int32} (h1 : zB a) (h2 : zB b) : zB (if c then a else b) := by split <;> assumption
theorem zB_n {v : Int32} (h : zB v) : narrow .boolean (.int v) = .int v := by rcases h with rfl | rfl <;> rfl
theorem zB_f {v : Int32} (h : zB v) : fits .boolean (.int v) = true := by rcases h with rfl | rfl <;> rfl
theorem cs_X4_isIn : zCS yX4_isIn cX4_isIn 3 (some .boolean) 3 := ⟨⟨q1765, q95, q1766⟩, by decide +kernel⟩
def M_isIn (x low high : Int32) : Int32 :=
  if x < low then
    0
  else
    if high < x then
      0
    else
      1
theorem mB_X4_isIn {x low high : Int32} : zB (M_isIn x low high) := by
  unfold M_isIn
  repeat (first | exact zB_0 | exact zB_1 | assumption | refine zB_ite ?_ ?_)
set_option maxHeartbeats 4000000 in
theorem mb_X4_isIn {X : zX} {w : zWd} {S : zH → Prop} {P : Option Value → zH → Prop} {PX : Nat → zH → Prop} (x low high : Int32)  (E : zOK X w RX4 cX4_isIn 3 0 0 [] (some .boolean) "isIn") (hP : ∀ r9 h9, r9 = M_isIn x low high → S h9 → P (some (.int r9)) h9) : Z X w 3 (zQ X w P PX) S 0 0 [(0, .int x), (1, .int low), (2, .int high)] 0 [] := by
  refine z_iload_n E dX4_isIn_0 rfl 0 rfl ?_
  refine z_iload_n E dX4_isIn_1 rfl 1 rfl ?_
  refine z_icmp_lt (tgt := 14) E dX4_isIn_2 (by decide) (fun c2 => ?_) (fun c2 => ?_)
  · refine z_iconst (v := 0) E dX4_isIn_14 (by decide) ?_
    exact z_zret E rfl rfl dX4_isIn_15 (fun h9 q9 => hP _ h9 (by unfold M_isIn; rw [if_pos c2]) q9)
  · refine z_iload_n E dX4_isIn_5 rfl 0 rfl ?_
    refine z_iload_n E dX4_isIn_6 rfl 2 rfl ?_
    refine z_icmp_gt (tgt := 14) E dX4_isIn_7 (by decide) (fun c7 => ?_) (fun c7 => ?_)
    · refine z_iconst (v := 0) E dX4_isIn_14 (by decide) ?_
      exact z_zret E rfl rfl dX4_isIn_15 (fun h9 q9 => hP _ h9 (by unfold M_isIn; rw [if_neg c2, if_pos c7]) q9)
    · refine z_iconst (v := 1) E dX4_isIn_10 (by decide) ?_
      refine z_goto (tgt := 15) E dX4_isIn_11 (by decide) ?_
      exact z_zret E rfl rfl dX4_isIn_15 (fun h9 q9 => hP _ h9 (by unfold M_isIn; rw [if_neg c2, if_neg c7]) q9)
theorem mm_X4_isIn {l : Launch} {w : zWd} {S : zH → Prop} (x low high : Int32)  : ZM l w yX4_isIn (ws_ yX4_isIn cX4_isIn 3 (some .boolean)) 0 0 0 0 [.int x, .int low, .int high] S (zri (M_isIn x low high) S) zno :=
  zm_of (by decide) rfl (Nat.le_of_ble_eq_true rfl) (fun X _ E => mb_X4_isIn x low high  E (fun r h e q => by subst e; exact ⟨rfl, q⟩))
theorem cs_X4_at : zCS yX4_at cX4_at 2 (some .int) 2 := ⟨⟨q1668, q95, q1669⟩, by decide +kernel⟩
def M_at (h c : Nat) : Int32 :=
  nI (6 + 4 * h + c)
set_option maxHeartbeats 4000000 in
theorem mb_X4_at {X : zX} {w : zWd} {S : zH → Prop} {P : Option Value → zH → Prop} {PX : Nat → zH → Prop} (h c : Nat)  (E : zOK X w RX4 cX4_at 2 0 0 [] (some .int) "at") (hP : ∀ r9 h9, r9 = M_at h c → S h9 → P (some (.int r9)) h9) : Z X w 2 (zQ X w P PX) S 0 0 [(0, .int (nI h)), (1, .int (nI c))] 0 [] := by
  refine z_bipush (v := 6) E dX4_at_0 (by decide) ?_
  refine z_iconst (v := 4) E dX4_at_2 (by decide) ?_
  refine z_iload_n E dX4_at_3 rfl 0 rfl ?_
  refine z_imulN (a := 4) (b := h) E dX4_at_4 ?_
  refine z_iaddN (a := 6) (b := 4 * h) E dX4_at_5 ?_
  refine z_iload_n E dX4_at_6 rfl 1 rfl ?_
  refine z_iaddN (a := 6 + (4 * h)) (b := c) E dX4_at_7 ?_
  exact z_iret E dX4_at_8 (fun h9 q9 => hP _ h9 (by unfold M_at; rfl) q9)
theorem mm_X4_at {l : Launch} {w : zWd} {S : zH → Prop} (h c : Nat)  : ZM l w yX4_at (ws_ yX4_at cX4_at 2 (some .int)) 0 0 0 0 [.int (nI h), .int (nI c)] S (zri (M_at h c) S) zno :=
  zm_of (by decide) rfl (Nat.le_of_ble_eq_true rfl) (fun X _ E => mb_X4_at h c  E (fun r h e q => by subst e; exact ⟨rfl, q⟩))
theorem cs_X4_in : zCS yX4_in cX4_in 2 (some .int) 2 := ⟨⟨q1791, q95, q1792⟩, by decide +kernel⟩
def M_in (h c : Nat) : Int32 :=
  nI (30 + 8 * h + c)
set_option maxHeartbeats 4000000 in
theorem mb_X4_in {X : zX} {w : zWd} {S : zH → Prop} {P : Option Value → zH → Prop} {PX : Nat → zH → Prop} (h c : Nat)  (E : zOK X w RX4 cX4_in 2 0 0 [] (some .int) "in") (hP : ∀ r9 h9, r9 = M_in h c → S h9 → P (some (.int r9)) h9) : Z X w 2 (zQ X w P PX) S 0 0 [(0, .int (nI h)), (1, .int (nI c))] 0 [] := by
  refine z_bipush (v := 30) E dX4_in_0 (by decide) ?_
  refine z_bipush (v := 8) E dX4_in_2 (by decide) ?_
  refine z_iload_n E dX4_in_4 rfl 0 rfl ?_
  refine z_imulN (a := 8) (b := h) E dX4_in_5 ?_
  refine z_iaddN (a := 30) (b := 8 * h) E dX4_in_6 ?_
  refine z_iload_n E dX4_in_7 rfl 1 rfl ?_
  refine z_iaddN (a := 30 + (8 * h)) (b := c) E dX4_in_8 ?_
  exact z_iret E dX4_in_9 (fun h9 q9 => hP _ h9 (by unfold M_in; rfl) q9)
theorem mm_X4_in {l : Launch} {w : zWd} {S : zH → Prop} (h c : Nat)  : ZM l w yX4_in (ws_ yX4_in cX4_in 2 (some .int)) 0 0 0 0 [.int (nI h), .int (nI c)] S (zri (M_in h c) S) zno :=
  zm_of (by decide) rfl (Nat.le_of_ble_eq_true rfl) (fun X _ E => mb_X4_in h c  E (fun r h e q => by subst e; exact ⟨rfl, q⟩))
theorem cs_X4_isHouse : zCS yX4_isHouse cX4_isHouse 1 (some .boolean) 1 := ⟨⟨q1762, q95, q1763⟩, by decide +kernel⟩
def M_isHouse (h : Int32) : Int32 :=
  M_isIn h 0 5
theorem mB_X4_isHouse {h : Int32} : zB (M_isHouse h) := by
  unfold M_isHouse
  repeat (first | exact zB_0 | exact zB_1 | assumption | exact mB_X4_isIn | refine zB_ite ?_ ?_)
set_option maxHeartbeats 4000000 in
theorem mb_X4_isHouse {X : zX} {w : zWd} {S : zH → Prop} {P : Option Value → zH → Prop} {PX : Nat → zH → Prop} (h : Int32)  (E : zOK X w RX4 cX4_isHouse 1 1 22 [] (some .boolean) "isHouse") (hP : ∀ r9 h9, r9 = M_isHouse h → S h9 → P (some (.int r9)) h9) : Z X w 1 (zQ X w P PX) S 0 0 [(0, .int h)] 0 [] := by
  refine z_iload_n E dX4_isHouse_0 rfl 0 rfl ?_
  refine z_iconst (v := 0) E dX4_isHouse_1 (by decide) ?_
  refine z_iconst (v := 5) E dX4_isHouse_2 (by decide) ?_
  refine z_callSi E (rest := []) (k' := 0) (n' := 0) cs_X4_isIn (mm_X4_isIn h 0 5) q1764 rfl rfl (Nat.le_of_ble_eq_true rfl) (Nat.le_of_ble_eq_true rfl) (Nat.le_of_ble_eq_true rfl) dX4_isHouse_3 (Nat.le_refl _) (Nat.le_refl _) ?_
  exact z_zret E rfl (zB_n (by repeat (first | exact zB_0 | exact zB_1 | assumption | exact mB_X4_isIn | exact mB_X4_isHouse | refine zB_ite ?_ ?_))) dX4_isHouse_6 (fun h9 q9 => hP _ h9 (by unfold M_isHouse; rfl) q9)
theorem mm_X4_isHouse {l : Launch} {w : zWd} {S : zH → Prop} (h : Int32)  : ZM l w yX4_isHouse (ws_ yX4_isHouse cX4_isHouse 1 (some .boolean)) 1 22 0 0 [.int h] S (zri (M_isHouse h) S) zno :=
  zm_of (by decide) rfl (Nat.le_of_ble_eq_true rfl) (fun X _ E => mb_X4_isHouse h  E (fun r h e q => by subst e; exact ⟨rfl, q⟩))
theorem cs_X4_isMade : zCS yX4_isMade cX4_isMade 2 (some .boolean) 2 := ⟨⟨q1772, q95, q1773⟩, by decide +kernel⟩
def M_isMade (a b : Int32) : Int32 :=
  if (M_isIn a 1 30) = 0 then
    0
  else
    if (M_isIn b 1 9) = 0 then
      0
    else
      1
theorem mB_X4_isMade {a b : Int32} : zB (M_isMade a b) := by
  unfold M_isMade
  repeat (first | exact zB_0 | exact zB_1 | assumption | exact mB_X4_isIn | exact mB_X4_isHouse | refine zB_ite ?_ ?_)
set_option maxHeartbeats 4000000 in
theorem mb_X4_isMade {X : zX} {w : zWd} {S : zH → Prop} {P : Option Value → zH → Prop} {PX : Nat → zH → Prop} (a b : Int32)  (E : zOK X w RX4 cX4_isMade 2 1 22 [] (some .boolean) "isMade") (hP : ∀ r9 h9, r9 = M_isMade a b → S h9 → P (some (.int r9)) h9) : Z X w 2 (zQ X w P PX) S 0 0 [(0, .int a), (1, .int b)] 0 [] := by
  refine z_iload_n E dX4_isMade_0 rfl 0 rfl ?_
  refine z_iconst (v := 1) E dX4_isMade_1 (by decide) ?_
  refine z_bipush (v := 30) E dX4_isMade_2 (by decide) ?_
  refine z_callSi E (rest := []) (k' := 0) (n' := 0) cs_X4_isIn (mm_X4_isIn a 1 30) q1764 rfl rfl (Nat.le_of_ble_eq_true rfl) (Nat.le_of_ble_eq_true rfl) (Nat.le_of_ble_eq_true rfl) dX4_isMade_4 (Nat.le_refl _) (Nat.le_refl _) ?_
  refine z_if_eq (tgt := 24) E dX4_isMade_7 (by decide) (fun c7 => ?_) (fun c7 => ?_)
  · refine z_iconst (v := 0) E dX4_isMade_24 (by decide) ?_
    exact z_zret E rfl rfl dX4_isMade_25 (fun h9 q9 => hP _ h9 (by unfold M_isMade; rw [if_pos c7]) q9)
  · refine z_iload_n E dX4_isMade_10 rfl 1 rfl ?_
    refine z_iconst (v := 1) E dX4_isMade_11 (by decide) ?_
    refine z_bipush (v := 9) E dX4_isMade_12 (by decide) ?_
    refine z_callSi E (rest := []) (k' := 0) (n' := 0) cs_X4_isIn (mm_X4_isIn b 1 9) q1764 rfl rfl (Nat.le_of_ble_eq_true rfl) (Nat.le_of_ble_eq_true rfl) (Nat.le_of_ble_eq_true rfl) dX4_isMade_14 (Nat.le_refl _) (Nat.le_refl _) ?_
    refine z_if_eq (tgt := 24) E dX4_isMade_17 (by decide) (fun c17 => ?_) (fun c17 => ?_)
    · refine z_iconst (v := 0) E dX4_isMade_24 (by decide) ?_
      exact z_zret E rfl rfl dX4_isMade_25 (fun h9 q9 => hP _ h9 (by unfold M_isMade; rw [if_neg c7, if_pos c17]) q9)
    · refine z_iconst (v := 1) E dX4_isMade_20 (by decide) ?_
      refine z_goto (tgt := 25) E dX4_isMade_21 (by decide) ?_
      exact z_zret E rfl rfl dX4_isMade_25 (fun h9 q9 => hP _ h9 (by unfold M_isMade; rw [if_neg c7, if_neg c17]) q9)
theorem mm_X4_isMade {l : Launch} {w : zWd} {S : zH → Prop} (a b : Int32)  : ZM l w yX4_isMade (ws_ yX4_isMade cX4_isMade 2 (some .boolean)) 1 22 0 0 [.int a, .int b] S (zri (M_isMade a b) S) zno :=
  zm_of (by decide) rfl (Nat.le_of_ble_eq_true rfl) (fun X _ E => mb_X4_isMade a b  E (fun r h e q => by subst e; exact ⟨rfl, q⟩))
theorem cs_X4_isKnown : zCS yX4_isKnown cX4_isKnown 1 (some .boolean) 1 := ⟨⟨q1988, q95, q1989⟩, by decide +kernel⟩
def M_isKnown (c : Int32) : Int32 :=
  if c = 115 then
    1
  else
    if c = 98 then
      1
    else
      if c = 111 then
        1
      else
        if c = 119 then
          1
        else
          if c = 112 then
            1
          else
            if c = 100 then
              1
            else
              if c = 109 then
                1
              else
                if c = 104 then
                  1
                else
                  if c = 101 then
                    1
                  else
                    if c = 116 then
                      1
                    else
                      0
theorem mB_X4_isKnown {c : Int32} : zB (M_isKnown c) := by
  unfold M_isKnown
  repeat (first | exact zB_0 | exact zB_1 | assumption | exact mB_X4_isIn | exact mB_X4_isHouse | exact mB_X4_isMade | refine zB_ite ?_ ?_)
set_option maxHeartbeats 4000000 in
theorem mb_X4_isKnown {X : zX} {w : zWd} {S : zH → Prop} {P : Option Value → zH → Prop} {PX : Nat → zH → Prop} (c : Int32)  (E : zOK X w RX4 cX4_isKnown 1 0 0 [] (some .boolean) "isKnown") (hP : ∀ r9 h9, r9 = M_isKnown c → S h9 → P (some (.int r9)) h9) : Z X w 1 (zQ X w P PX) S 0 0 [(0, .int c)] 0 [] := by
  refine z_iload_n E dX4_isKnown_0 rfl 0 rfl ?_
  refine z_bipush (v := 115) E dX4_isKnown_1 (by decide) ?_
  refine z_icmp_eq (tgt := 60) E dX4_isKnown_3 (by decide) (fun c3 => ?_) (fun c3 => ?_)
  · refine z_iconst (v := 1) E dX4_isKnown_60 (by decide) ?_
    refine z_goto (tgt := 65) E dX4_isKnown_61 (by decide) ?_
    exact z_zret E rfl rfl dX4_isKnown_65 (fun h9 q9 => hP _ h9 (by unfold M_isKnown; rw [if_pos c3]) q9)
  · refine z_iload_n E dX4_isKnown_6 rfl 0 rfl ?_
    refine z_bipush (v := 98) E dX4_isKnown_7 (by decide) ?_
    refine z_icmp_eq (tgt := 60) E dX4_isKnown_9 (by decide) (fun c9 => ?_) (fun c9 => ?_)
    · refine z_iconst (v := 1) E dX4_isKnown_60 (by decide) ?_
      refine z_goto (tgt := 65) E dX4_isKnown_61 (by decide) ?_
      exact z_zret E rfl rfl dX4_isKnown_65 (fun h9 q9 => hP _ h9 (by unfold M_isKnown; rw [if_neg c3, if_pos c9]) q9)
    · refine z_iload_n E dX4_isKnown_12 rfl 0 rfl ?_
      refine z_bipush (v := 111) E dX4_isKnown_13 (by decide) ?_
      refine z_icmp_eq (tgt := 60) E dX4_isKnown_15 (by decide) (fun c15 => ?_) (fun c15 => ?_)
      · refine z_iconst (v := 1) E dX4_isKnown_60 (by decide) ?_
        refine z_goto (tgt := 65) E dX4_isKnown_61 (by decide) ?_
        exact z_zret E rfl rfl dX4_isKnown_65 (fun h9 q9 => hP _ h9 (by unfold M_isKnown; rw [if_neg c3, if_neg c9, if_pos c15]) q9)
      · refine z_iload_n E dX4_isKnown_18 rfl 0 rfl ?_
        refine z_bipush (v := 119) E dX4_isKnown_19 (by decide) ?_
        refine z_icmp_eq (tgt := 60) E dX4_isKnown_21 (by decide) (fun c21 => ?_) (fun c21 => ?_)
        · refine z_iconst (v := 1) E dX4_isKnown_60 (by decide) ?_
          refine z_goto (tgt := 65) E dX4_isKnown_61 (by decide) ?_
          exact z_zret E rfl rfl dX4_isKnown_65 (fun h9 q9 => hP _ h9 (by unfold M_isKnown; rw [if_neg c3, if_neg c9, if_neg c15, if_pos c21]) q9)
        · refine z_iload_n E dX4_isKnown_24 rfl 0 rfl ?_
          refine z_bipush (v := 112) E dX4_isKnown_25 (by decide) ?_
          refine z_icmp_eq (tgt := 60) E dX4_isKnown_27 (by decide) (fun c27 => ?_) (fun c27 => ?_)
          · refine z_iconst (v := 1) E dX4_isKnown_60 (by decide) ?_
            refine z_goto (tgt := 65) E dX4_isKnown_61 (by decide) ?_
            exact z_zret E rfl rfl dX4_isKnown_65 (fun h9 q9 => hP _ h9 (by unfold M_isKnown; rw [if_neg c3, if_neg c9, if_neg c15, if_neg c21, if_pos c27]) q9)
          · refine z_iload_n E dX4_isKnown_30 rfl 0 rfl ?_
            refine z_bipush (v := 100) E dX4_isKnown_31 (by decide) ?_
            refine z_icmp_eq (tgt := 60) E dX4_isKnown_33 (by decide) (fun c33 => ?_) (fun c33 => ?_)
            · refine z_iconst (v := 1) E dX4_isKnown_60 (by decide) ?_
              refine z_goto (tgt := 65) E dX4_isKnown_61 (by decide) ?_
              exact z_zret E rfl rfl dX4_isKnown_65 (fun h9 q9 => hP _ h9 (by unfold M_isKnown; rw [if_neg c3, if_neg c9, if_neg c15, if_neg c21, if_neg c27, if_pos c33]) q9)
            · refine z_iload_n E dX4_isKnown_36 rfl 0 rfl ?_
              refine z_bipush (v := 109) E dX4_isKnown_37 (by decide) ?_
              refine z_icmp_eq (tgt := 60) E dX4_isKnown_39 (by decide) (fun c39 => ?_) (fun c39 => ?_)
              · refine z_iconst (v := 1) E dX4_isKnown_60 (by decide) ?_
                refine z_goto (tgt := 65) E dX4_isKnown_61 (by decide) ?_
                exact z_zret E rfl rfl dX4_isKnown_65 (fun h9 q9 => hP _ h9 (by unfold M_isKnown; rw [if_neg c3, if_neg c9, if_neg c15, if_neg c21, if_neg c27, if_neg c33, if_pos c39]) q9)
              · refine z_iload_n E dX4_isKnown_42 rfl 0 rfl ?_
                refine z_bipush (v := 104) E dX4_isKnown_43 (by decide) ?_
                refine z_icmp_eq (tgt := 60) E dX4_isKnown_45 (by decide) (fun c45 => ?_) (fun c45 => ?_)
                · refine z_iconst (v := 1) E dX4_isKnown_60 (by decide) ?_
                  refine z_goto (tgt := 65) E dX4_isKnown_61 (by decide) ?_
                  exact z_zret E rfl rfl dX4_isKnown_65 (fun h9 q9 => hP _ h9 (by unfold M_isKnown; rw [if_neg c3, if_neg c9, if_neg c15, if_neg c21, if_neg c27, if_neg c33, if_neg c39, if_pos c45]) q9)
                · refine z_iload_n E dX4_isKnown_48 rfl 0 rfl ?_
                  refine z_bipush (v := 101) E dX4_isKnown_49 (by decide) ?_
                  refine z_icmp_eq (tgt := 60) E dX4_isKnown_51 (by decide) (fun c51 => ?_) (fun c51 => ?_)
                  · refine z_iconst (v := 1) E dX4_isKnown_60 (by decide) ?_
                    refine z_goto (tgt := 65) E dX4_isKnown_61 (by decide) ?_
                    exact z_zret E rfl rfl dX4_isKnown_65 (fun h9 q9 => hP _ h9 (by unfold M_isKnown; rw [if_neg c3, if_neg c9, if_neg c15, if_neg c21, if_neg c27, if_neg c33, if_neg c39, if_neg c45, if_pos c51]) q9)
                  · refine z_iload_n E dX4_isKnown_54 rfl 0 rfl ?_
                    refine z_bipush (v := 116) E dX4_isKnown_55 (by decide) ?_
                    refine z_icmp_ne (tgt := 64) E dX4_isKnown_57 (by decide) (fun c57 => ?_) (fun c57 => ?_)
                    · refine z_iconst (v := 0) E dX4_isKnown_64 (by decide) ?_
                      exact z_zret E rfl rfl dX4_isKnown_65 (fun h9 q9 => hP _ h9 (by unfold M_isKnown; rw [if_neg c3, if_neg c9, if_neg c15, if_neg c21, if_neg c27, if_neg c33, if_neg c39, if_neg c45, if_neg c51, if_neg c57]) q9)
                    · refine z_iconst (v := 1) E dX4_isKnown_60 (by decide) ?_
                      refine z_goto (tgt := 65) E dX4_isKnown_61 (by decide) ?_
                      exact z_zret E rfl rfl dX4_isKnown_65 (fun h9 q9 => hP _ h9 (by unfold M_isKnown; rw [if_neg c3, if_neg c9, if_neg c15, if_neg c21, if_neg c27, if_neg c33, if_neg c39, if_neg c45, if_neg c51, if_pos c57]) q9)
theorem mm_X4_isKnown {l : Launch} {w : zWd} {S : zH → Prop} (c : Int32)  : ZM l w yX4_isKnown (ws_ yX4_isKnown cX4_isKnown 1 (some .boolean)) 0 0 0 0 [.int c] S (zri (M_isKnown c) S) zno :=
  zm_of (by decide) rfl (Nat.le_of_ble_eq_true rfl) (fun X _ E => mb_X4_isKnown c  E (fun r h e q => by subst e; exact ⟨rfl, q⟩))
theorem cv_X4_fail : zCV yX4_fail RX4 cX4_fail 2 (some .int) 1 := ⟨⟨q1769, qs37, q95, q1770⟩, by decide +kernel⟩
def M_fail (σ : mSt) (code : Int32) : Int32 × mSt :=
  let s2 := setF σ 0 code
  (code, s2)
set_option maxHeartbeats 4000000 in
theorem mb_X4_fail {X : zX} {w : zWd} {m : Nat} {ad : Nat → Nat} {h0 : zH} {σ : mSt} {P : Option Value → zH → Prop} {PX : Nat → zH → Prop} (code : Int32)  (E : zOK X w RX4 cX4_fail 2 0 0 [] (some .int) "fail") (hP : ∀ r9 s9 h9, (r9, s9) = M_fail σ code → mS m ad h0 s9 h9 → P (some (.int r9)) h9) : Z X w 2 (zQ X w P PX) (mS m ad h0 σ) 0 0 [(0, .ref m), (1, .int code)] 0 [] := by
  refine z_aload_n E dX4_fail_0 rfl 0 rfl ?_
  refine z_iload_n E dX4_fail_1 rfl 1 rfl ?_
  refine m_put E 0 (by decide) q1670 rfl rfl (ty := .int) rfl rfl rfl mset_0 dX4_fail_2 ?_
  generalize hs2 : setF σ 0 code = s2
  refine z_iload_n E dX4_fail_5 rfl 1 rfl ?_
  exact z_iret E dX4_fail_6 (fun h9 q9 => hP _ _ h9 (by subst hs2; unfold M_fail; rfl) q9)
theorem mm_X4_fail {l : Launch} {w : zWd} {m : Nat} {ad : Nat → Nat} {h0 : zH} {σ : mSt} (code : Int32)  : ZM l w yX4_fail (ws_ yX4_fail cX4_fail 2 (some .int)) 0 0 0 0 [.ref m, .int code] (mS m ad h0 σ) (zri (M_fail σ code).1 (mS m ad h0 (M_fail σ code).2)) zno :=
  zm_of (by decide) rfl (Nat.le_of_ble_eq_true rfl) (fun X _ E => mb_X4_fail code  E (fun r s h e q => by rw [← e]; exact ⟨rfl, q⟩))
theorem cv_X4_refuses : zCV yX4_refuses RX4 cX4_refuses 3 (some .int) 2 := ⟨⟨q1780, qs39, q95, q1781⟩, by decide +kernel⟩
def M_refuses (σ : mSt) (b c : Int32) : Int32 × mSt :=
  let s2 := setF σ 2 b
  let s7 := setF s2 3 c
  let s12 := setF s7 4 0
  let s17 := setF s12 6 0
  let s24 := (M_fail s17 (-1014)).2
  ((M_fail s17 (-1014)).1, s24)
set_option maxHeartbeats 4000000 in
theorem mb_X4_refuses {X : zX} {w : zWd} {m : Nat} {ad : Nat → Nat} {h0 : zH} {σ : mSt} {P : Option Value → zH → Prop} {PX : Nat → zH → Prop} (b c : Int32)  (E : zOK X w RX4 cX4_refuses 3 1 21 [] (some .int) "refuses") (hP : ∀ r9 s9 h9, (r9, s9) = M_refuses σ b c → mS m ad h0 s9 h9 → P (some (.int r9)) h9) : Z X w 3 (zQ X w P PX) (mS m ad h0 σ) 0 0 [(0, .ref m), (1, .int b), (2, .int c)] 0 [] := by
  refine z_aload_n E dX4_refuses_0 rfl 0 rfl ?_
  refine z_iload_n E dX4_refuses_1 rfl 1 rfl ?_
  refine m_put E 2 (by decide) q1672 rfl rfl (ty := .int) rfl rfl rfl mset_2 dX4_refuses_2 ?_
  generalize hs2 : setF σ 2 b = s2
  refine z_aload_n E dX4_refuses_5 rfl 0 rfl ?_
  refine z_iload_n E dX4_refuses_6 rfl 2 rfl ?_
  refine m_put E 3 (by decide) q1673 rfl rfl (ty := .int) rfl rfl rfl mset_3 dX4_refuses_7 ?_
  generalize hs7 : setF s2 3 c = s7
  refine z_aload_n E dX4_refuses_10 rfl 0 rfl ?_
  refine z_iconst (v := 0) E dX4_refuses_11 (by decide) ?_
  refine m_put E 4 (by decide) q1674 rfl rfl (ty := .int) rfl rfl rfl mset_4 dX4_refuses_12 ?_
  generalize hs12 : setF s7 4 0 = s12
  refine z_aload_n E dX4_refuses_15 rfl 0 rfl ?_
  refine z_iconst (v := 0) E dX4_refuses_16 (by decide) ?_
  refine m_put E 6 (by decide) q1676 rfl rfl (ty := .int) rfl rfl rfl mset_6 dX4_refuses_17 ?_
  generalize hs17 : setF s12 6 0 = s17
  refine z_aload_n E dX4_refuses_20 rfl 0 rfl ?_
  refine z_sipush (v := -1014) E dX4_refuses_21 (by decide) ?_
  refine z_callVi E (rest := []) (k' := 0) (n' := 0) cv_X4_fail (mm_X4_fail (σ := s17) (-1014)) q1767 rfl mS_o rfl rfl (Nat.le_of_ble_eq_true rfl) (Nat.le_of_ble_eq_true rfl) (Nat.le_of_ble_eq_true rfl) dX4_refuses_24 (Nat.le_refl _) (Nat.le_refl _) ?_
  generalize hs24 : (M_fail s17 (-1014)).2 = s24
  exact z_iret E dX4_refuses_27 (fun h9 q9 => hP _ _ h9 (by subst hs24 hs17 hs12 hs7 hs2; unfold M_refuses; rfl) q9)
theorem mm_X4_refuses {l : Launch} {w : zWd} {m : Nat} {ad : Nat → Nat} {h0 : zH} {σ : mSt} (b c : Int32)  : ZM l w yX4_refuses (ws_ yX4_refuses cX4_refuses 3 (some .int)) 1 21 0 0 [.ref m, .int b, .int c] (mS m ad h0 σ) (zri (M_refuses σ b c).1 (mS m ad h0 (M_refuses σ b c).2)) zno :=
  zm_of (by decide) rfl (Nat.le_of_ble_eq_true rfl) (fun X _ E => mb_X4_refuses b c  E (fun r s h e q => by rw [← e]; exact ⟨rfl, q⟩))
theorem cv_X4_refusesBurning : zCV yX4_refusesBurning RX4 cX4_refusesBurning 5 (some .int) 3 := ⟨⟨q1811, qs45, q95, q1812⟩, by decide +kernel⟩
def M_refusesBurning (σ : mSt) (s b c : Int32) : Int32 × mSt :=
  let s3 := (M_refuses σ 4 s).2
  let s10 := setF s3 4 b
  let s15 := setF s10 5 c
  ((M_refuses σ 4 s).1, s15)
set_option maxHeartbeats 4000000 in
theorem mb_X4_refusesBurning {X : zX} {w : zWd} {m : Nat} {ad : Nat → Nat} {h0 : zH} {σ : mSt} {P : Option Value → zH → Prop} {PX : Nat → zH → Prop} (s b c : Int32)  (E : zOK X w RX4 cX4_refusesBurning 5 2 43 [] (some .int) "refusesBurning") (hP : ∀ r9 s9 h9, (r9, s9) = M_refusesBurning σ s b c → mS m ad h0 s9 h9 → P (some (.int r9)) h9) : Z X w 5 (zQ X w P PX) (mS m ad h0 σ) 0 0 [(0, .ref m), (1, .int s), (2, .int b), (3, .int c)] 0 [] := by
  refine z_aload_n E dX4_refusesBurning_0 rfl 0 rfl ?_
  refine z_iconst (v := 4) E dX4_refusesBurning_1 (by decide) ?_
  refine z_iload_n E dX4_refusesBurning_2 rfl 1 rfl ?_
  refine z_callVi E (rest := []) (k' := 0) (n' := 0) cv_X4_refuses (mm_X4_refuses (σ := σ) 4 s) q1778 rfl mS_o rfl rfl (Nat.le_of_ble_eq_true rfl) (Nat.le_of_ble_eq_true rfl) (Nat.le_of_ble_eq_true rfl) dX4_refusesBurning_3 (Nat.le_refl _) (Nat.le_refl _) ?_
  generalize hs3 : (M_refuses σ 4 s).2 = s3
  refine z_istore (lv' := [(4, .int ((M_refuses σ 4 s).1)), (0, .ref m), (1, .int s), (2, .int b), (3, .int c)]) E dX4_refusesBurning_6 (by decide) rfl ?_
  refine z_aload_n E dX4_refusesBurning_8 rfl 1 rfl ?_
  refine z_iload_n E dX4_refusesBurning_9 rfl 3 rfl ?_
  refine m_put E 4 (by decide) q1674 rfl rfl (ty := .int) rfl rfl rfl mset_4 dX4_refusesBurning_10 ?_
  generalize hs10 : setF s3 4 b = s10
  refine z_aload_n E dX4_refusesBurning_13 rfl 1 rfl ?_
  refine z_iload_n E dX4_refusesBurning_14 rfl 4 rfl ?_
  refine m_put E 5 (by decide) q1675 rfl rfl (ty := .int) rfl rfl rfl mset_5 dX4_refusesBurning_15 ?_
  generalize hs15 : setF s10 5 c = s15
  refine z_iload E dX4_refusesBurning_18 0 rfl ?_
  exact z_iret E dX4_refusesBurning_20 (fun h9 q9 => hP _ _ h9 (by subst hs15 hs10 hs3; unfold M_refusesBurning; rfl) q9)
theorem mm_X4_refusesBurning {l : Launch} {w : zWd} {m : Nat} {ad : Nat → Nat} {h0 : zH} {σ : mSt} (s b c : Int32)  : ZM l w yX4_refusesBurning (ws_ yX4_refusesBurning cX4_refusesBurning 5 (some .int)) 2 43 0 0 [.ref m, .int s, .int b, .int c] (mS m ad h0 σ) (zri (M_refusesBurning σ s b c).1 (mS m ad h0 (M_refusesBurning σ s b c).2)) zno :=
  zm_of (by decide) rfl (Nat.le_of_ble_eq_true rfl) (fun X _ E => mb_X4_refusesBurning s b c  E (fun r s h e q => by rw [← e]; exact ⟨rfl, q⟩))
theorem cv_X4_isStub : zCV yX4_isStub RX4 cX4_isStub 2 (some .boolean) 1 := ⟨⟨q1807, qs44, q95, q1808⟩, by decide +kernel⟩
def M_isStub (σ : mSt) (s : Int32) : Int32 :=
  M_isIn s 0 ((σ.2 9 0) - 1)
theorem mB_X4_isStub {σ : mSt} {s : Int32} : zB (M_isStub σ s) := by
  unfold M_isStub
  repeat (first | exact zB_0 | exact zB_1 | assumption | exact mB_X4_isIn | exact mB_X4_isHouse | exact mB_X4_isMade | exact mB_X4_isKnown | refine zB_ite ?_ ?_)
set_option maxHeartbeats 4000000 in
theorem mb_X4_isStub {X : zX} {w : zWd} {m : Nat} {ad : Nat → Nat} {h0 : zH} {σ : mSt} {P : Option Value → zH → Prop} {PX : Nat → zH → Prop} (s : Int32)  (E : zOK X w RX4 cX4_isStub 2 1 22 [] (some .boolean) "isStub") (hP : ∀ r9 h9, r9 = M_isStub σ s → (mS m ad h0 σ) h9 → P (some (.int r9)) h9) : Z X w 2 (zQ X w P PX) (mS m ad h0 σ) 0 0 [(0, .ref m), (1, .int s)] 0 [] := by
  refine z_iload_n E dX4_isStub_0 rfl 1 rfl ?_
  refine z_iconst (v := 0) E dX4_isStub_1 (by decide) ?_
  refine z_aload_n E dX4_isStub_2 rfl 0 rfl ?_
  refine m_get E 9 (by decide) rfl q1679 rfl dX4_isStub_3 ?_
  refine z_iconst (v := 0) E dX4_isStub_6 (by decide) ?_
  refine m_ald E (j := 9) (q := 0) (by decide) (by show _ < 126; omega) (by omega) dX4_isStub_7 ?_
  refine z_iconst (v := 1) E dX4_isStub_8 (by decide) ?_
  refine z_isub E dX4_isStub_9 ?_
  refine z_callSi E (rest := []) (k' := 0) (n' := 0) cs_X4_isIn (mm_X4_isIn s 0 ((σ.2 9 0) - 1)) q1764 rfl rfl (Nat.le_of_ble_eq_true rfl) (Nat.le_of_ble_eq_true rfl) (Nat.le_of_ble_eq_true rfl) dX4_isStub_10 (Nat.le_refl _) (Nat.le_refl _) ?_
  exact z_zret E rfl (zB_n (by repeat (first | exact zB_0 | exact zB_1 | assumption | exact mB_X4_isIn | exact mB_X4_isHouse | exact mB_X4_isMade | exact mB_X4_isKnown | exact mB_X4_isStub | refine zB_ite ?_ ?_))) dX4_isStub_13 (fun h9 q9 => hP _ h9 (by unfold M_isStub; rfl) q9)
theorem mm_X4_isStub {l : Launch} {w : zWd} {m : Nat} {ad : Nat → Nat} {h0 : zH} {σ : mSt} (s : Int32)  : ZM l w yX4_isStub (ws_ yX4_isStub cX4_isStub 2 (some .boolean)) 1 22 0 0 [.ref m, .int s] (mS m ad h0 σ) (zri (M_isStub σ s) (mS m ad h0 σ)) zno :=
  zm_of (by decide) rfl (Nat.le_of_ble_eq_true rfl) (fun X _ E => mb_X4_isStub s  E (fun r h e q => by subst e; exact ⟨rfl, q⟩))
theorem cv_X4_isOpen : zCV yX4_isOpen RX4 cX4_isOpen 2 (some .boolean) 1 := ⟨⟨q1776, qs38, q95, q1777⟩, by decide +kernel⟩
def M_isOpen (σ : mSt) (h : Nat) : Int32 :=
  if (σ.2 9 (6 + 4 * h + 0)) = 1 then
    1
  else
    0
theorem mB_X4_isOpen {σ : mSt} {h : Nat} : zB (M_isOpen σ h) := by
  unfold M_isOpen
  repeat (first | exact zB_0 | exact zB_1 | assumption | exact mB_X4_isIn | exact mB_X4_isHouse | exact mB_X4_isMade | exact mB_X4_isKnown | exact mB_X4_isStub | refine zB_ite ?_ ?_)
set_option maxHeartbeats 4000000 in
theorem mb_X4_isOpen {X : zX} {w : zWd} {m : Nat} {ad : Nat → Nat} {h0 : zH} {σ : mSt} {P : Option Value → zH → Prop} {PX : Nat → zH → Prop} (h : Nat) (hh : h < 6) (E : zOK X w RX4 cX4_isOpen 2 1 21 [] (some .boolean) "isOpen") (hP : ∀ r9 h9, r9 = M_isOpen σ h → (mS m ad h0 σ) h9 → P (some (.int r9)) h9) : Z X w 2 (zQ X w P PX) (mS m ad h0 σ) 0 0 [(0, .ref m), (1, .int (nI h))] 0 [] := by
  refine z_aload_n E dX4_isOpen_0 rfl 0 rfl ?_
  refine m_get E 9 (by decide) rfl q1679 rfl dX4_isOpen_1 ?_
  refine z_iload_n E dX4_isOpen_4 rfl 1 rfl ?_
  refine z_iconst (v := 0) E dX4_isOpen_5 (by decide) ?_
  refine z_callSi E (rest := [.ref (ad 9)]) (k' := 0) (n' := 0) cs_X4_at (mm_X4_at h 0) q1667 rfl rfl (Nat.le_of_ble_eq_true rfl) (Nat.le_of_ble_eq_true rfl) (Nat.le_of_ble_eq_true rfl) dX4_isOpen_6 (Nat.le_refl _) (Nat.le_refl _) ?_
  refine m_ald E (j := 9) (q := 6 + 4 * h + 0) (by decide) (by show _ < 126; omega) (by omega) dX4_isOpen_9 ?_
  refine z_iconst (v := 1) E dX4_isOpen_10 (by decide) ?_
  refine z_icmp_ne (tgt := 18) E dX4_isOpen_11 (by decide) (fun c11 => ?_) (fun c11 => ?_)
  · refine z_iconst (v := 0) E dX4_isOpen_18 (by decide) ?_
    exact z_zret E rfl rfl dX4_isOpen_19 (fun h9 q9 => hP _ h9 (by unfold M_isOpen; rw [if_neg c11]) q9)
  · refine z_iconst (v := 1) E dX4_isOpen_14 (by decide) ?_
    refine z_goto (tgt := 19) E dX4_isOpen_15 (by decide) ?_
    exact z_zret E rfl rfl dX4_isOpen_19 (fun h9 q9 => hP _ h9 (by unfold M_isOpen; rw [if_pos c11]) q9)
theorem mm_X4_isOpen {l : Launch} {w : zWd} {m : Nat} {ad : Nat → Nat} {h0 : zH} {σ : mSt} (h : Nat) (hh : h < 6) : ZM l w yX4_isOpen (ws_ yX4_isOpen cX4_isOpen 2 (some .boolean)) 1 21 0 0 [.ref m, .int (nI h)] (mS m ad h0 σ) (zri (M_isOpen σ h) (mS m ad h0 σ)) zno :=
  zm_of (by decide) rfl (Nat.le_of_ble_eq_true rfl) (fun X _ E => mb_X4_isOpen h hh E (fun r h e q => by subst e; exact ⟨rfl, q⟩))
/-- the state's array: n stubs, houses' heirs and stubs' houses in range -/
def MI (v : Nat → Int32) (n : Nat) : Prop := v 0 = nI n ∧ n ≤ 12 ∧ (∀ k, k < 6 → ∃ j, j < 6 ∧ v (6 + 4 * k + 1) = nI j) ∧ (∀ s, s < n → ∃ j, j < 6 ∧ v (30 + 8 * s + 0) = nI j) ∧ ∀ k, k < 6 → v (6 + 4 * k + 0) = 0 ∨ v (6 + 4 * k + 0) = 1
theorem MI_k {v : Nat → Int32} {n q : Nat} {x : Int32} (I : MI v n) (h0 : q ≠ 0) (h1 : ∀ k, k < 6 → 6 + 4 * k + 1 ≠ q) (h2 : ∀ s, s < n → 30 + 8 * s + 0 ≠ q) (h3 : ∀ k, k < 6 → 6 + 4 * k + 0 ≠ q) : MI (upd v q x) n := by
  obtain ⟨a, b, c, d, e⟩ := I
  refine ⟨by rw [pk_un (Ne.symm h0)]; exact a, b, fun k hk => ?_, fun s hs => ?_, fun k hk => ?_⟩
  · rw [pk_un (h1 k hk)]; exact c k hk
  · rw [pk_un (h2 s hs)]; exact d s hs
  · rw [pk_un (h3 k hk)]; exact e k hk
theorem isIn_e {x l h : Int32} (c : ¬ M_isIn x l h = 0) : ¬ x < l ∧ ¬ h < x := by
  unfold M_isIn at c
  split at c
  · exact absurd rfl c
  · split at c
    · exact absurd rfl c
    · exact ⟨by assumption, by assumption⟩
theorem zHouse_e {h : Int32} (c : ¬ M_isHouse h = 0) : h = nI h.toNatClampNeg ∧ h.toNatClampNeg < 6 := by
  obtain ⟨a, b⟩ := isIn_e (x := h) (l := 0) (h := 5) c
  obtain ⟨j, hj, rfl⟩ := nI_of2 (x := h) (M := 5) (n := 5) (by decide) a (k2_le b)
  rw [nI_clamp (by omega)]
  exact ⟨rfl, by omega⟩
theorem zStub_e {σ : mSt} {s : Int32} {n : Nat} (I : MI (σ.2 9) n) (c : ¬ M_isStub σ s = 0) : s = nI s.toNatClampNeg ∧ s.toNatClampNeg < n := by
  obtain ⟨hn, h12, -, -, -⟩ := I
  obtain ⟨a, b⟩ := isIn_e (x := s) (l := 0) (h := σ.2 9 0 - 1) c
  rw [hn] at b
  cases n with
  | zero => exact absurd (show s < 0 from by
      have h1 := k2_le b
      rw [show nI 0 - 1 = (-1 : Int32) from by decide] at h1
      rw [Int32.le_iff_toInt_le] at h1
      rw [Int32.lt_iff_toInt_lt]
      have : (-1 : Int32).toInt = -1 := by decide
      have : (0 : Int32).toInt = 0 := by decide
      omega) a
  | succ n =>
    rw [nI_pred] at b
    obtain ⟨j, hj, rfl⟩ := nI_of2 (x := s) (M := nI n) (n := n) (nI_toInt (by omega)) a (k2_le b)
    rw [nI_clamp (by omega)]
    exact ⟨rfl, by omega⟩

def B_tray (σ : mSt) (n : Nat) (h : Int32) (i : Nat) (s : Int32) : Int32 :=
  s + (if (σ.2 9 (30 + 8 * i + 0)) = h then (σ.2 9 (30 + 8 * i + 1)) + 1 else (0 : Int32))
set_option maxHeartbeats 4000000 in
theorem ml_tray {X : zX} {w : zWd} {m : Nat} {ad : Nat → Nat} {h0 : zH} {σ : mSt} {P : Option Value → zH → Prop} {PX : Nat → zH → Prop} (n : Nat) (h : Int32) (I : MI (σ.2 9) n) (s0 : Int32)  (E : zOK X w RX4 cX4_tray 4 1 21 [] (some .int) "tray") (kx : Z X w 4 (zQ X w P PX) (mS m ad h0 σ) 0 0 [(0, .ref m), (1, .int h), (2, .int ((iterN (B_tray σ n h) s0 n))), (3, .int (nI n))] 53 []) : ∀ d i, i + d = n → Z X w 4 (zQ X w P PX) (mS m ad h0 σ) 0 0 [(0, .ref m), (1, .int h), (2, .int ((iterN (B_tray σ n h) s0 i))), (3, .int (nI i))] 4 [] := by
  intro d
  induction d with
  | zero =>
    intro i hi
    have hi : i = n := by omega
    rw [hi]
    have hn12 := I.2.1
    refine z_iload_n E dX4_tray_4 rfl 3 rfl ?_
    refine z_aload_n E dX4_tray_5 rfl 0 rfl ?_
    refine m_get E 9 (by decide) rfl q1679 rfl dX4_tray_6 ?_
    refine z_iconst (v := 0) E dX4_tray_9 (by decide) ?_
    refine m_ald E (j := 9) (q := 0) (by decide) (by show _ < 126; omega) (by omega) dX4_tray_10 ?_
    refine z_top (I.1) ?_
    refine z_icmp_geN (a := n) (b := n) (tgt := 53) E (by omega) (by omega) dX4_tray_11 (by decide) (fun c11 => ?_) (fun c11 => absurd c11 (by omega))
    exact kx
  | succ d ih =>
    intro i hi
    have ih1 := ih (i + 1) (by omega)
    have hn12 := I.2.1
    rw [iterN_s] at ih1
    generalize hs : iterN (B_tray σ n h) s0 i = s at ih1  ⊢
    refine z_iload_n E dX4_tray_4 rfl 3 rfl ?_
    refine z_aload_n E dX4_tray_5 rfl 0 rfl ?_
    refine m_get E 9 (by decide) rfl q1679 rfl dX4_tray_6 ?_
    refine z_iconst (v := 0) E dX4_tray_9 (by decide) ?_
    refine m_ald E (j := 9) (q := 0) (by decide) (by show _ < 126; omega) (by omega) dX4_tray_10 ?_
    refine z_top (I.1) ?_
    refine z_icmp_geN (a := i) (b := n) (tgt := 53) E (by omega) (by omega) dX4_tray_11 (by decide) (fun c11 => absurd c11 (by omega)) (fun c11 => ?_)
    refine z_iload_n E dX4_tray_14 rfl 2 rfl ?_
    refine z_aload_n E dX4_tray_15 rfl 0 rfl ?_
    refine m_get E 9 (by decide) rfl q1679 rfl dX4_tray_16 ?_
    refine z_iload_n E dX4_tray_19 rfl 3 rfl ?_
    refine z_iconst (v := 0) E dX4_tray_20 (by decide) ?_
    refine z_callSi E (rest := [.ref (ad 9), .int s]) (k' := 0) (n' := 0) cs_X4_in (mm_X4_in i 0) q1790 rfl rfl (Nat.le_of_ble_eq_true rfl) (Nat.le_of_ble_eq_true rfl) (Nat.le_of_ble_eq_true rfl) dX4_tray_21 (Nat.le_refl _) (Nat.le_refl _) ?_
    refine m_ald E (j := 9) (q := 30 + 8 * i + 0) (by decide) (by show _ < 126; omega) (by omega) dX4_tray_24 ?_
    refine z_iload_n E dX4_tray_25 rfl 1 rfl ?_
    have J26 : ∀ (j26_0 : Int32), j26_0 = (if (σ.2 9 (30 + 8 * i + 0)) = h then (σ.2 9 (30 + 8 * i + 1)) + 1 else (0 : Int32)) → Z X w 4 (zQ X w P PX) (mS m ad h0 σ) 0 0 [(0, .ref m), (1, .int h), (2, .int s), (3, .int (nI i))] 45 [.int j26_0, .int s] := by
      intro j26_0 ej26_0
      subst ej26_0
      refine z_iadd E dX4_tray_45 ?_
      refine z_istore_n (lv' := [(2, .int (s + (if (σ.2 9 (30 + 8 * i + 0)) = h then (σ.2 9 (30 + 8 * i + 1)) + 1 else (0 : Int32)))), (0, .ref m), (1, .int h), (3, .int (nI i))]) E dX4_tray_46 rfl (by decide) rfl ?_
      refine z_iinc (v := nI (i + 1)) (lv' := [(3, .int (nI (i + 1))), (2, .int (s + (if (σ.2 9 (30 + 8 * i + 0)) = h then (σ.2 9 (30 + 8 * i + 1)) + 1 else (0 : Int32)))), (0, .ref m), (1, .int h)]) E dX4_tray_47 (j := 3) rfl (nI_add _ 1) (by decide) rfl ?_
      refine z_goto (tgt := 4) E dX4_tray_50 (by decide) ?_
      refine z_sub (lv' := [(0, .ref m), (1, .int h), (2, .int (s + (if (σ.2 9 (30 + 8 * i + 0)) = h then (σ.2 9 (30 + 8 * i + 1)) + 1 else (0 : Int32)))), (3, .int (nI (i + 1)))]) [2, 3, 1, 0] rfl ?_
      exact ih1
    refine z_icmp_ne (tgt := 44) E dX4_tray_26 (by decide) (fun c26 => ?_) (fun c26 => ?_)
    · refine z_iconst (v := 0) E dX4_tray_44 (by decide) ?_
      exact J26 _ ((if_neg c26).symm)
    · refine z_aload_n E dX4_tray_29 rfl 0 rfl ?_
      refine m_get E 9 (by decide) rfl q1679 rfl dX4_tray_30 ?_
      refine z_iload_n E dX4_tray_33 rfl 3 rfl ?_
      refine z_iconst (v := 1) E dX4_tray_34 (by decide) ?_
      refine z_callSi E (rest := [.ref (ad 9), .int s]) (k' := 0) (n' := 0) cs_X4_in (mm_X4_in i 1) q1790 rfl rfl (Nat.le_of_ble_eq_true rfl) (Nat.le_of_ble_eq_true rfl) (Nat.le_of_ble_eq_true rfl) dX4_tray_35 (Nat.le_refl _) (Nat.le_refl _) ?_
      refine m_ald E (j := 9) (q := 30 + 8 * i + 1) (by decide) (by show _ < 126; omega) (by omega) dX4_tray_38 ?_
      refine z_iconst (v := 1) E dX4_tray_39 (by decide) ?_
      refine z_iadd E dX4_tray_40 ?_
      refine z_goto (tgt := 45) E dX4_tray_41 (by decide) ?_
      exact J26 _ ((if_pos c26).symm)
theorem cv_X4_tray : zCV yX4_tray RX4 cX4_tray 4 (some .int) 1 := ⟨⟨q1788, qs41, q95, q1789⟩, by decide +kernel⟩
def M_tray (σ : mSt) (n : Nat) (h : Int32) : Int32 :=
  (iterN (B_tray σ n h) 0 n)
set_option maxHeartbeats 4000000 in
theorem mb_X4_tray {X : zX} {w : zWd} {m : Nat} {ad : Nat → Nat} {h0 : zH} {σ : mSt} {P : Option Value → zH → Prop} {PX : Nat → zH → Prop} (n : Nat) (h : Int32) (I : MI (σ.2 9) n) (E : zOK X w RX4 cX4_tray 4 1 21 [] (some .int) "tray") (hP : ∀ r9 h9, r9 = M_tray σ n h → (mS m ad h0 σ) h9 → P (some (.int r9)) h9) : Z X w 4 (zQ X w P PX) (mS m ad h0 σ) 0 0 [(0, .ref m), (1, .int h)] 0 [] := by
  have hn12 := I.2.1
  refine z_iconst (v := 0) E dX4_tray_0 (by decide) ?_
  refine z_istore_n (lv' := [(2, .int 0), (0, .ref m), (1, .int h)]) E dX4_tray_1 rfl (by decide) rfl ?_
  refine z_iconst (v := 0) E dX4_tray_2 (by decide) ?_
  refine z_istore_n (lv' := [(3, .int 0), (2, .int 0), (0, .ref m), (1, .int h)]) E dX4_tray_3 rfl (by decide) rfl ?_
  refine z_sub (lv' := [(0, .ref m), (1, .int h), (2, .int 0), (3, .int 0)]) [2, 3, 1, 0] rfl ?_
  refine ml_tray n h I 0  E ?_ n 0 (by omega)
  refine z_iload_n E dX4_tray_53 rfl 2 rfl ?_
  exact z_iret E dX4_tray_54 (fun h9 q9 => hP _ h9 (by unfold M_tray; rfl) q9)
theorem mm_X4_tray {l : Launch} {w : zWd} {m : Nat} {ad : Nat → Nat} {h0 : zH} {σ : mSt} (n : Nat) (h : Int32) (I : MI (σ.2 9) n) : ZM l w yX4_tray (ws_ yX4_tray cX4_tray 4 (some .int)) 1 21 0 0 [.ref m, .int h] (mS m ad h0 σ) (zri (M_tray σ n h) (mS m ad h0 σ)) zno :=
  zm_of (by decide) rfl (Nat.le_of_ble_eq_true rfl) (fun X _ E => mb_X4_tray n h I E (fun r h e q => by subst e; exact ⟨rfl, q⟩))
def B_owed (σ : mSt) (n : Nat) (h : Int32) (i : Nat) (s : Int32) : Int32 :=
  s + (if (σ.2 9 (30 + 8 * i + 3)) = (h + 1) then σ.2 9 (30 + 8 * i + 4) else (0 : Int32))
set_option maxHeartbeats 4000000 in
theorem ml_owed {X : zX} {w : zWd} {m : Nat} {ad : Nat → Nat} {h0 : zH} {σ : mSt} {P : Option Value → zH → Prop} {PX : Nat → zH → Prop} (n : Nat) (h : Int32) (I : MI (σ.2 9) n) (s0 : Int32)  (E : zOK X w RX4 cX4_owed 4 1 21 [] (some .int) "owed") (kx : Z X w 4 (zQ X w P PX) (mS m ad h0 σ) 0 0 [(0, .ref m), (1, .int h), (2, .int ((iterN (B_owed σ n h) s0 n))), (3, .int (nI n))] 53 []) : ∀ d i, i + d = n → Z X w 4 (zQ X w P PX) (mS m ad h0 σ) 0 0 [(0, .ref m), (1, .int h), (2, .int ((iterN (B_owed σ n h) s0 i))), (3, .int (nI i))] 4 [] := by
  intro d
  induction d with
  | zero =>
    intro i hi
    have hi : i = n := by omega
    rw [hi]
    have hn12 := I.2.1
    refine z_iload_n E dX4_owed_4 rfl 3 rfl ?_
    refine z_aload_n E dX4_owed_5 rfl 0 rfl ?_
    refine m_get E 9 (by decide) rfl q1679 rfl dX4_owed_6 ?_
    refine z_iconst (v := 0) E dX4_owed_9 (by decide) ?_
    refine m_ald E (j := 9) (q := 0) (by decide) (by show _ < 126; omega) (by omega) dX4_owed_10 ?_
    refine z_top (I.1) ?_
    refine z_icmp_geN (a := n) (b := n) (tgt := 53) E (by omega) (by omega) dX4_owed_11 (by decide) (fun c11 => ?_) (fun c11 => absurd c11 (by omega))
    exact kx
  | succ d ih =>
    intro i hi
    have ih1 := ih (i + 1) (by omega)
    have hn12 := I.2.1
    rw [iterN_s] at ih1
    generalize hs : iterN (B_owed σ n h) s0 i = s at ih1  ⊢
    refine z_iload_n E dX4_owed_4 rfl 3 rfl ?_
    refine z_aload_n E dX4_owed_5 rfl 0 rfl ?_
    refine m_get E 9 (by decide) rfl q1679 rfl dX4_owed_6 ?_
    refine z_iconst (v := 0) E dX4_owed_9 (by decide) ?_
    refine m_ald E (j := 9) (q := 0) (by decide) (by show _ < 126; omega) (by omega) dX4_owed_10 ?_
    refine z_top (I.1) ?_
    refine z_icmp_geN (a := i) (b := n) (tgt := 53) E (by omega) (by omega) dX4_owed_11 (by decide) (fun c11 => absurd c11 (by omega)) (fun c11 => ?_)
    refine z_iload_n E dX4_owed_14 rfl 2 rfl ?_
    refine z_aload_n E dX4_owed_15 rfl 0 rfl ?_
    refine m_get E 9 (by decide) rfl q1679 rfl dX4_owed_16 ?_
    refine z_iload_n E dX4_owed_19 rfl 3 rfl ?_
    refine z_iconst (v := 3) E dX4_owed_20 (by decide) ?_
    refine z_callSi E (rest := [.ref (ad 9), .int s]) (k' := 0) (n' := 0) cs_X4_in (mm_X4_in i 3) q1790 rfl rfl (Nat.le_of_ble_eq_true rfl) (Nat.le_of_ble_eq_true rfl) (Nat.le_of_ble_eq_true rfl) dX4_owed_21 (Nat.le_refl _) (Nat.le_refl _) ?_
    refine m_ald E (j := 9) (q := 30 + 8 * i + 3) (by decide) (by show _ < 126; omega) (by omega) dX4_owed_24 ?_
    refine z_iload_n E dX4_owed_25 rfl 1 rfl ?_
    refine z_iconst (v := 1) E dX4_owed_26 (by decide) ?_
    refine z_iadd E dX4_owed_27 ?_
    have J28 : ∀ (j28_0 : Int32), j28_0 = (if (σ.2 9 (30 + 8 * i + 3)) = (h + 1) then σ.2 9 (30 + 8 * i + 4) else (0 : Int32)) → Z X w 4 (zQ X w P PX) (mS m ad h0 σ) 0 0 [(0, .ref m), (1, .int h), (2, .int s), (3, .int (nI i))] 45 [.int j28_0, .int s] := by
      intro j28_0 ej28_0
      subst ej28_0
      refine z_iadd E dX4_owed_45 ?_
      refine z_istore_n (lv' := [(2, .int (s + (if (σ.2 9 (30 + 8 * i + 3)) = (h + 1) then σ.2 9 (30 + 8 * i + 4) else (0 : Int32)))), (0, .ref m), (1, .int h), (3, .int (nI i))]) E dX4_owed_46 rfl (by decide) rfl ?_
      refine z_iinc (v := nI (i + 1)) (lv' := [(3, .int (nI (i + 1))), (2, .int (s + (if (σ.2 9 (30 + 8 * i + 3)) = (h + 1) then σ.2 9 (30 + 8 * i + 4) else (0 : Int32)))), (0, .ref m), (1, .int h)]) E dX4_owed_47 (j := 3) rfl (nI_add _ 1) (by decide) rfl ?_
      refine z_goto (tgt := 4) E dX4_owed_50 (by decide) ?_
      refine z_sub (lv' := [(0, .ref m), (1, .int h), (2, .int (s + (if (σ.2 9 (30 + 8 * i + 3)) = (h + 1) then σ.2 9 (30 + 8 * i + 4) else (0 : Int32)))), (3, .int (nI (i + 1)))]) [2, 3, 1, 0] rfl ?_
      exact ih1
    refine z_icmp_ne (tgt := 44) E dX4_owed_28 (by decide) (fun c28 => ?_) (fun c28 => ?_)
    · refine z_iconst (v := 0) E dX4_owed_44 (by decide) ?_
      exact J28 _ ((if_neg c28).symm)
    · refine z_aload_n E dX4_owed_31 rfl 0 rfl ?_
      refine m_get E 9 (by decide) rfl q1679 rfl dX4_owed_32 ?_
      refine z_iload_n E dX4_owed_35 rfl 3 rfl ?_
      refine z_iconst (v := 4) E dX4_owed_36 (by decide) ?_
      refine z_callSi E (rest := [.ref (ad 9), .int s]) (k' := 0) (n' := 0) cs_X4_in (mm_X4_in i 4) q1790 rfl rfl (Nat.le_of_ble_eq_true rfl) (Nat.le_of_ble_eq_true rfl) (Nat.le_of_ble_eq_true rfl) dX4_owed_37 (Nat.le_refl _) (Nat.le_refl _) ?_
      refine m_ald E (j := 9) (q := 30 + 8 * i + 4) (by decide) (by show _ < 126; omega) (by omega) dX4_owed_40 ?_
      refine z_goto (tgt := 45) E dX4_owed_41 (by decide) ?_
      exact J28 _ ((if_pos c28).symm)
theorem cv_X4_owed : zCV yX4_owed RX4 cX4_owed 4 (some .int) 1 := ⟨⟨q1827, qs48, q95, q1828⟩, by decide +kernel⟩
def M_owed (σ : mSt) (n : Nat) (h : Int32) : Int32 :=
  (iterN (B_owed σ n h) 0 n)
set_option maxHeartbeats 4000000 in
theorem mb_X4_owed {X : zX} {w : zWd} {m : Nat} {ad : Nat → Nat} {h0 : zH} {σ : mSt} {P : Option Value → zH → Prop} {PX : Nat → zH → Prop} (n : Nat) (h : Int32) (I : MI (σ.2 9) n) (E : zOK X w RX4 cX4_owed 4 1 21 [] (some .int) "owed") (hP : ∀ r9 h9, r9 = M_owed σ n h → (mS m ad h0 σ) h9 → P (some (.int r9)) h9) : Z X w 4 (zQ X w P PX) (mS m ad h0 σ) 0 0 [(0, .ref m), (1, .int h)] 0 [] := by
  have hn12 := I.2.1
  refine z_iconst (v := 0) E dX4_owed_0 (by decide) ?_
  refine z_istore_n (lv' := [(2, .int 0), (0, .ref m), (1, .int h)]) E dX4_owed_1 rfl (by decide) rfl ?_
  refine z_iconst (v := 0) E dX4_owed_2 (by decide) ?_
  refine z_istore_n (lv' := [(3, .int 0), (2, .int 0), (0, .ref m), (1, .int h)]) E dX4_owed_3 rfl (by decide) rfl ?_
  refine z_sub (lv' := [(0, .ref m), (1, .int h), (2, .int 0), (3, .int 0)]) [2, 3, 1, 0] rfl ?_
  refine ml_owed n h I 0  E ?_ n 0 (by omega)
  refine z_iload_n E dX4_owed_53 rfl 2 rfl ?_
  exact z_iret E dX4_owed_54 (fun h9 q9 => hP _ h9 (by unfold M_owed; rfl) q9)
theorem mm_X4_owed {l : Launch} {w : zWd} {m : Nat} {ad : Nat → Nat} {h0 : zH} {σ : mSt} (n : Nat) (h : Int32) (I : MI (σ.2 9) n) : ZM l w yX4_owed (ws_ yX4_owed cX4_owed 4 (some .int)) 1 21 0 0 [.ref m, .int h] (mS m ad h0 σ) (zri (M_owed σ n h) (mS m ad h0 σ)) zno :=
  zm_of (by decide) rfl (Nat.le_of_ble_eq_true rfl) (fun X _ E => mb_X4_owed n h I E (fun r h e q => by subst e; exact ⟨rfl, q⟩))
def B_writs (σ : mSt) (n : Nat) (h : Int32) (i : Nat) (s : Int32) : Int32 :=
  s + (if 0 ≤ h then (if (σ.2 9 (30 + 8 * i + 6)) = (h + 1) then (1 : Int32) else (0 : Int32)) else (if (σ.2 9 (30 + 8 * i + 6)) ≤ 0 then ((0 : Int32)) else ((1 : Int32))))
set_option maxHeartbeats 4000000 in
theorem ml_writs {X : zX} {w : zWd} {m : Nat} {ad : Nat → Nat} {h0 : zH} {σ : mSt} {P : Option Value → zH → Prop} {PX : Nat → zH → Prop} (n : Nat) (h : Int32) (I : MI (σ.2 9) n) (s0 : Int32)  (E : zOK X w RX4 cX4_writs 4 1 21 [] (some .int) "writs") (kx : Z X w 4 (zQ X w P PX) (mS m ad h0 σ) 0 0 [(0, .ref m), (1, .int h), (2, .int ((iterN (B_writs σ n h) s0 n))), (3, .int (nI n))] 71 []) : ∀ d i, i + d = n → Z X w 4 (zQ X w P PX) (mS m ad h0 σ) 0 0 [(0, .ref m), (1, .int h), (2, .int ((iterN (B_writs σ n h) s0 i))), (3, .int (nI i))] 4 [] := by
  intro d
  induction d with
  | zero =>
    intro i hi
    have hi : i = n := by omega
    rw [hi]
    have hn12 := I.2.1
    refine z_iload_n E dX4_writs_4 rfl 3 rfl ?_
    refine z_aload_n E dX4_writs_5 rfl 0 rfl ?_
    refine m_get E 9 (by decide) rfl q1679 rfl dX4_writs_6 ?_
    refine z_iconst (v := 0) E dX4_writs_9 (by decide) ?_
    refine m_ald E (j := 9) (q := 0) (by decide) (by show _ < 126; omega) (by omega) dX4_writs_10 ?_
    refine z_top (I.1) ?_
    refine z_icmp_geN (a := n) (b := n) (tgt := 71) E (by omega) (by omega) dX4_writs_11 (by decide) (fun c11 => ?_) (fun c11 => absurd c11 (by omega))
    exact kx
  | succ d ih =>
    intro i hi
    have ih1 := ih (i + 1) (by omega)
    have hn12 := I.2.1
    rw [iterN_s] at ih1
    generalize hs : iterN (B_writs σ n h) s0 i = s at ih1  ⊢
    refine z_iload_n E dX4_writs_4 rfl 3 rfl ?_
    refine z_aload_n E dX4_writs_5 rfl 0 rfl ?_
    refine m_get E 9 (by decide) rfl q1679 rfl dX4_writs_6 ?_
    refine z_iconst (v := 0) E dX4_writs_9 (by decide) ?_
    refine m_ald E (j := 9) (q := 0) (by decide) (by show _ < 126; omega) (by omega) dX4_writs_10 ?_
    refine z_top (I.1) ?_
    refine z_icmp_geN (a := i) (b := n) (tgt := 71) E (by omega) (by omega) dX4_writs_11 (by decide) (fun c11 => absurd c11 (by omega)) (fun c11 => ?_)
    refine z_iload_n E dX4_writs_14 rfl 2 rfl ?_
    refine z_iload_n E dX4_writs_15 rfl 1 rfl ?_
    have J16 : ∀ (j16_0 : Int32), j16_0 = (if 0 ≤ h then (if (σ.2 9 (30 + 8 * i + 6)) = (h + 1) then (1 : Int32) else (0 : Int32)) else (if (σ.2 9 (30 + 8 * i + 6)) ≤ 0 then ((0 : Int32)) else ((1 : Int32)))) → Z X w 4 (zQ X w P PX) (mS m ad h0 σ) 0 0 [(0, .ref m), (1, .int h), (2, .int s), (3, .int (nI i))] 63 [.int j16_0, .int s] := by
      intro j16_0 ej16_0
      subst ej16_0
      refine z_iadd E dX4_writs_63 ?_
      refine z_istore_n (lv' := [(2, .int (s + (if 0 ≤ h then (if (σ.2 9 (30 + 8 * i + 6)) = (h + 1) then (1 : Int32) else (0 : Int32)) else (if (σ.2 9 (30 + 8 * i + 6)) ≤ 0 then ((0 : Int32)) else ((1 : Int32)))))), (0, .ref m), (1, .int h), (3, .int (nI i))]) E dX4_writs_64 rfl (by decide) rfl ?_
      refine z_iinc (v := nI (i + 1)) (lv' := [(3, .int (nI (i + 1))), (2, .int (s + (if 0 ≤ h then (if (σ.2 9 (30 + 8 * i + 6)) = (h + 1) then (1 : Int32) else (0 : Int32)) else (if (σ.2 9 (30 + 8 * i + 6)) ≤ 0 then ((0 : Int32)) else ((1 : Int32)))))), (0, .ref m), (1, .int h)]) E dX4_writs_65 (j := 3) rfl (nI_add _ 1) (by decide) rfl ?_
      refine z_goto (tgt := 4) E dX4_writs_68 (by decide) ?_
      refine z_sub (lv' := [(0, .ref m), (1, .int h), (2, .int (s + (if 0 ≤ h then (if (σ.2 9 (30 + 8 * i + 6)) = (h + 1) then (1 : Int32) else (0 : Int32)) else (if (σ.2 9 (30 + 8 * i + 6)) ≤ 0 then ((0 : Int32)) else ((1 : Int32)))))), (3, .int (nI (i + 1)))]) [2, 3, 1, 0] rfl ?_
      exact ih1
    refine z_if_ge (tgt := 41) E dX4_writs_16 (by decide) (fun c16 => ?_) (fun c16 => ?_)
    · refine z_aload_n E dX4_writs_41 rfl 0 rfl ?_
      refine m_get E 9 (by decide) rfl q1679 rfl dX4_writs_42 ?_
      refine z_iload_n E dX4_writs_45 rfl 3 rfl ?_
      refine z_bipush (v := 6) E dX4_writs_46 (by decide) ?_
      refine z_callSi E (rest := [.ref (ad 9), .int s]) (k' := 0) (n' := 0) cs_X4_in (mm_X4_in i 6) q1790 rfl rfl (Nat.le_of_ble_eq_true rfl) (Nat.le_of_ble_eq_true rfl) (Nat.le_of_ble_eq_true rfl) dX4_writs_48 (Nat.le_refl _) (Nat.le_refl _) ?_
      refine m_ald E (j := 9) (q := 30 + 8 * i + 6) (by decide) (by show _ < 126; omega) (by omega) dX4_writs_51 ?_
      refine z_iload_n E dX4_writs_52 rfl 1 rfl ?_
      refine z_iconst (v := 1) E dX4_writs_53 (by decide) ?_
      refine z_iadd E dX4_writs_54 ?_
      refine z_icmp_ne (tgt := 62) E dX4_writs_55 (by decide) (fun c55 => ?_) (fun c55 => ?_)
      · refine z_iconst (v := 0) E dX4_writs_62 (by decide) ?_
        exact J16 _ (((if_pos c16).trans (if_neg c55)).symm)
      · refine z_iconst (v := 1) E dX4_writs_58 (by decide) ?_
        refine z_goto (tgt := 63) E dX4_writs_59 (by decide) ?_
        exact J16 _ (((if_pos c16).trans (if_pos c55)).symm)
    · refine z_aload_n E dX4_writs_19 rfl 0 rfl ?_
      refine m_get E 9 (by decide) rfl q1679 rfl dX4_writs_20 ?_
      refine z_iload_n E dX4_writs_23 rfl 3 rfl ?_
      refine z_bipush (v := 6) E dX4_writs_24 (by decide) ?_
      refine z_callSi E (rest := [.ref (ad 9), .int s]) (k' := 0) (n' := 0) cs_X4_in (mm_X4_in i 6) q1790 rfl rfl (Nat.le_of_ble_eq_true rfl) (Nat.le_of_ble_eq_true rfl) (Nat.le_of_ble_eq_true rfl) dX4_writs_26 (Nat.le_refl _) (Nat.le_refl _) ?_
      refine m_ald E (j := 9) (q := 30 + 8 * i + 6) (by decide) (by show _ < 126; omega) (by omega) dX4_writs_29 ?_
      refine z_if_le (tgt := 37) E dX4_writs_30 (by decide) (fun c30 => ?_) (fun c30 => ?_)
      · refine z_iconst (v := 0) E dX4_writs_37 (by decide) ?_
        refine z_goto (tgt := 63) E dX4_writs_38 (by decide) ?_
        exact J16 _ (((if_neg c16).trans (if_pos c30)).symm)
      · refine z_iconst (v := 1) E dX4_writs_33 (by decide) ?_
        refine z_goto (tgt := 63) E dX4_writs_34 (by decide) ?_
        exact J16 _ (((if_neg c16).trans (if_neg c30)).symm)
theorem cv_X4_writs : zCV yX4_writs RX4 cX4_writs 4 (some .int) 1 := ⟨⟨q1839, qs50, q95, q1840⟩, by decide +kernel⟩
def M_writs (σ : mSt) (n : Nat) (h : Int32) : Int32 :=
  (iterN (B_writs σ n h) 0 n)
set_option maxHeartbeats 4000000 in
theorem mb_X4_writs {X : zX} {w : zWd} {m : Nat} {ad : Nat → Nat} {h0 : zH} {σ : mSt} {P : Option Value → zH → Prop} {PX : Nat → zH → Prop} (n : Nat) (h : Int32) (I : MI (σ.2 9) n) (E : zOK X w RX4 cX4_writs 4 1 21 [] (some .int) "writs") (hP : ∀ r9 h9, r9 = M_writs σ n h → (mS m ad h0 σ) h9 → P (some (.int r9)) h9) : Z X w 4 (zQ X w P PX) (mS m ad h0 σ) 0 0 [(0, .ref m), (1, .int h)] 0 [] := by
  have hn12 := I.2.1
  refine z_iconst (v := 0) E dX4_writs_0 (by decide) ?_
  refine z_istore_n (lv' := [(2, .int 0), (0, .ref m), (1, .int h)]) E dX4_writs_1 rfl (by decide) rfl ?_
  refine z_iconst (v := 0) E dX4_writs_2 (by decide) ?_
  refine z_istore_n (lv' := [(3, .int 0), (2, .int 0), (0, .ref m), (1, .int h)]) E dX4_writs_3 rfl (by decide) rfl ?_
  refine z_sub (lv' := [(0, .ref m), (1, .int h), (2, .int 0), (3, .int 0)]) [2, 3, 1, 0] rfl ?_
  refine ml_writs n h I 0  E ?_ n 0 (by omega)
  refine z_iload_n E dX4_writs_71 rfl 2 rfl ?_
  exact z_iret E dX4_writs_72 (fun h9 q9 => hP _ h9 (by unfold M_writs; rfl) q9)
theorem mm_X4_writs {l : Launch} {w : zWd} {m : Nat} {ad : Nat → Nat} {h0 : zH} {σ : mSt} (n : Nat) (h : Int32) (I : MI (σ.2 9) n) : ZM l w yX4_writs (ws_ yX4_writs cX4_writs 4 (some .int)) 1 21 0 0 [.ref m, .int h] (mS m ad h0 σ) (zri (M_writs σ n h) (mS m ad h0 σ)) zno :=
  zm_of (by decide) rfl (Nat.le_of_ble_eq_true rfl) (fun X _ E => mb_X4_writs n h I E (fun r h e q => by subst e; exact ⟨rfl, q⟩))
def B_ofStubs (σ : mSt) (n : Nat) (h c : Int32) (i : Nat) (s : Int32) : Int32 :=
  if (σ.2 9 (30 + 8 * i + 0)) = h then s + (if c = 5 then (1 : Int32) else σ.2 9 (30 + 8 * i + 4)) else s
set_option maxHeartbeats 4000000 in
theorem ml_ofStubs {X : zX} {w : zWd} {m : Nat} {ad : Nat → Nat} {h0 : zH} {σ : mSt} {P : Option Value → zH → Prop} {PX : Nat → zH → Prop} (n : Nat) (h c : Int32) (I : MI (σ.2 9) n) (s0 : Int32)  (E : zOK X w RX4 cX4_ofStubs 5 1 21 [] (some .int) "ofStubs") (kx : Z X w 5 (zQ X w P PX) (mS m ad h0 σ) 0 0 [(0, .ref m), (1, .int h), (2, .int c), (3, .int ((iterN (B_ofStubs σ n h c) s0 n))), (4, .int (nI n))] 60 []) : ∀ d i, i + d = n → Z X w 5 (zQ X w P PX) (mS m ad h0 σ) 0 0 [(0, .ref m), (1, .int h), (2, .int c), (3, .int ((iterN (B_ofStubs σ n h c) s0 i))), (4, .int (nI i))] 5 [] := by
  intro d
  induction d with
  | zero =>
    intro i hi
    have hi : i = n := by omega
    rw [hi]
    have hn12 := I.2.1
    refine z_iload E dX4_ofStubs_5 4 rfl ?_
    refine z_aload_n E dX4_ofStubs_7 rfl 0 rfl ?_
    refine m_get E 9 (by decide) rfl q1679 rfl dX4_ofStubs_8 ?_
    refine z_iconst (v := 0) E dX4_ofStubs_11 (by decide) ?_
    refine m_ald E (j := 9) (q := 0) (by decide) (by show _ < 126; omega) (by omega) dX4_ofStubs_12 ?_
    refine z_top (I.1) ?_
    refine z_icmp_geN (a := n) (b := n) (tgt := 60) E (by omega) (by omega) dX4_ofStubs_13 (by decide) (fun c13 => ?_) (fun c13 => absurd c13 (by omega))
    exact kx
  | succ d ih =>
    intro i hi
    have ih1 := ih (i + 1) (by omega)
    have hn12 := I.2.1
    rw [iterN_s] at ih1
    generalize hs : iterN (B_ofStubs σ n h c) s0 i = s at ih1  ⊢
    refine z_iload E dX4_ofStubs_5 4 rfl ?_
    refine z_aload_n E dX4_ofStubs_7 rfl 0 rfl ?_
    refine m_get E 9 (by decide) rfl q1679 rfl dX4_ofStubs_8 ?_
    refine z_iconst (v := 0) E dX4_ofStubs_11 (by decide) ?_
    refine m_ald E (j := 9) (q := 0) (by decide) (by show _ < 126; omega) (by omega) dX4_ofStubs_12 ?_
    refine z_top (I.1) ?_
    refine z_icmp_geN (a := i) (b := n) (tgt := 60) E (by omega) (by omega) dX4_ofStubs_13 (by decide) (fun c13 => absurd c13 (by omega)) (fun c13 => ?_)
    refine z_aload_n E dX4_ofStubs_16 rfl 0 rfl ?_
    refine m_get E 9 (by decide) rfl q1679 rfl dX4_ofStubs_17 ?_
    refine z_iload E dX4_ofStubs_20 4 rfl ?_
    refine z_iconst (v := 0) E dX4_ofStubs_22 (by decide) ?_
    refine z_callSi E (rest := [.ref (ad 9)]) (k' := 0) (n' := 0) cs_X4_in (mm_X4_in i 0) q1790 rfl rfl (Nat.le_of_ble_eq_true rfl) (Nat.le_of_ble_eq_true rfl) (Nat.le_of_ble_eq_true rfl) dX4_ofStubs_23 (Nat.le_refl _) (Nat.le_refl _) ?_
    refine m_ald E (j := 9) (q := 30 + 8 * i + 0) (by decide) (by show _ < 126; omega) (by omega) dX4_ofStubs_26 ?_
    refine z_iload_n E dX4_ofStubs_27 rfl 1 rfl ?_
    have J28 : ∀ (j28_0 : Int32), j28_0 = (if (σ.2 9 (30 + 8 * i + 0)) = h then s + (if c = 5 then (1 : Int32) else σ.2 9 (30 + 8 * i + 4)) else s) → Z X w 5 (zQ X w P PX) (mS m ad h0 σ) 0 0 [(0, .ref m), (1, .int h), (2, .int c), (3, .int j28_0), (4, .int (nI i))] 54 [] := by
      intro j28_0 ej28_0
      subst ej28_0
      refine z_iinc (v := nI (i + 1)) (lv' := [(4, .int (nI (i + 1))), (0, .ref m), (1, .int h), (2, .int c), (3, .int (if (σ.2 9 (30 + 8 * i + 0)) = h then s + (if c = 5 then (1 : Int32) else σ.2 9 (30 + 8 * i + 4)) else s))]) E dX4_ofStubs_54 (j := 4) rfl (nI_add _ 1) (by decide) rfl ?_
      refine z_goto (tgt := 5) E dX4_ofStubs_57 (by decide) ?_
      refine z_sub (lv' := [(0, .ref m), (1, .int h), (2, .int c), (3, .int (if (σ.2 9 (30 + 8 * i + 0)) = h then s + (if c = 5 then (1 : Int32) else σ.2 9 (30 + 8 * i + 4)) else s)), (4, .int (nI (i + 1)))]) [1, 2, 3, 4, 0] rfl ?_
      exact ih1
    refine z_icmp_ne (tgt := 54) E dX4_ofStubs_28 (by decide) (fun c28 => ?_) (fun c28 => ?_)
    · exact J28 _ ((if_neg c28).symm)
    · refine z_iload_n E dX4_ofStubs_31 rfl 3 rfl ?_
      refine z_iload_n E dX4_ofStubs_32 rfl 2 rfl ?_
      refine z_iconst (v := 5) E dX4_ofStubs_33 (by decide) ?_
      have J34 : ∀ (j34_0 : Int32), j34_0 = (if c = 5 then (1 : Int32) else σ.2 9 (30 + 8 * i + 4)) → Z X w 5 (zQ X w P PX) (mS m ad h0 σ) 0 0 [(0, .ref m), (1, .int h), (2, .int c), (3, .int s), (4, .int (nI i))] 52 [.int j34_0, .int s] := by
        intro j34_0 ej34_0
        subst ej34_0
        refine z_iadd E dX4_ofStubs_52 ?_
        refine z_istore_n (lv' := [(3, .int (s + (if c = 5 then (1 : Int32) else σ.2 9 (30 + 8 * i + 4)))), (0, .ref m), (1, .int h), (2, .int c), (4, .int (nI i))]) E dX4_ofStubs_53 rfl (by decide) rfl ?_
        refine z_sub (lv' := [(0, .ref m), (1, .int h), (2, .int c), (3, .int (s + (if c = 5 then (1 : Int32) else σ.2 9 (30 + 8 * i + 4)))), (4, .int (nI i))]) [1, 2, 3, 0, 4] rfl ?_
        exact J28 _ ((if_pos c28).symm)
      refine z_icmp_ne (tgt := 41) E dX4_ofStubs_34 (by decide) (fun c34 => ?_) (fun c34 => ?_)
      · refine z_aload_n E dX4_ofStubs_41 rfl 0 rfl ?_
        refine m_get E 9 (by decide) rfl q1679 rfl dX4_ofStubs_42 ?_
        refine z_iload E dX4_ofStubs_45 4 rfl ?_
        refine z_iconst (v := 4) E dX4_ofStubs_47 (by decide) ?_
        refine z_callSi E (rest := [.ref (ad 9), .int s]) (k' := 0) (n' := 0) cs_X4_in (mm_X4_in i 4) q1790 rfl rfl (Nat.le_of_ble_eq_true rfl) (Nat.le_of_ble_eq_true rfl) (Nat.le_of_ble_eq_true rfl) dX4_ofStubs_48 (Nat.le_refl _) (Nat.le_refl _) ?_
        refine m_ald E (j := 9) (q := 30 + 8 * i + 4) (by decide) (by show _ < 126; omega) (by omega) dX4_ofStubs_51 ?_
        exact J34 _ ((if_neg c34).symm)
      · refine z_iconst (v := 1) E dX4_ofStubs_37 (by decide) ?_
        refine z_goto (tgt := 52) E dX4_ofStubs_38 (by decide) ?_
        exact J34 _ ((if_pos c34).symm)
theorem cv_X4_ofStubs : zCV yX4_ofStubs RX4 cX4_ofStubs 5 (some .int) 2 := ⟨⟨q1940, qs65, q95, q1941⟩, by decide +kernel⟩
def M_ofStubs (σ : mSt) (n : Nat) (h c : Int32) : Int32 :=
  (iterN (B_ofStubs σ n h c) 0 n)
set_option maxHeartbeats 4000000 in
theorem mb_X4_ofStubs {X : zX} {w : zWd} {m : Nat} {ad : Nat → Nat} {h0 : zH} {σ : mSt} {P : Option Value → zH → Prop} {PX : Nat → zH → Prop} (n : Nat) (h c : Int32) (I : MI (σ.2 9) n) (E : zOK X w RX4 cX4_ofStubs 5 1 21 [] (some .int) "ofStubs") (hP : ∀ r9 h9, r9 = M_ofStubs σ n h c → (mS m ad h0 σ) h9 → P (some (.int r9)) h9) : Z X w 5 (zQ X w P PX) (mS m ad h0 σ) 0 0 [(0, .ref m), (1, .int h), (2, .int c)] 0 [] := by
  have hn12 := I.2.1
  refine z_iconst (v := 0) E dX4_ofStubs_0 (by decide) ?_
  refine z_istore_n (lv' := [(3, .int 0), (0, .ref m), (1, .int h), (2, .int c)]) E dX4_ofStubs_1 rfl (by decide) rfl ?_
  refine z_iconst (v := 0) E dX4_ofStubs_2 (by decide) ?_
  refine z_istore (lv' := [(4, .int 0), (3, .int 0), (0, .ref m), (1, .int h), (2, .int c)]) E dX4_ofStubs_3 (by decide) rfl ?_
  refine z_sub (lv' := [(0, .ref m), (1, .int h), (2, .int c), (3, .int 0), (4, .int 0)]) [2, 3, 4, 1, 0] rfl ?_
  refine ml_ofStubs n h c I 0  E ?_ n 0 (by omega)
  refine z_iload_n E dX4_ofStubs_60 rfl 3 rfl ?_
  exact z_iret E dX4_ofStubs_61 (fun h9 q9 => hP _ h9 (by unfold M_ofStubs; rfl) q9)
theorem mm_X4_ofStubs {l : Launch} {w : zWd} {m : Nat} {ad : Nat → Nat} {h0 : zH} {σ : mSt} (n : Nat) (h c : Int32) (I : MI (σ.2 9) n) : ZM l w yX4_ofStubs (ws_ yX4_ofStubs cX4_ofStubs 5 (some .int)) 1 21 0 0 [.ref m, .int h, .int c] (mS m ad h0 σ) (zri (M_ofStubs σ n h c) (mS m ad h0 σ)) zno :=
  zm_of (by decide) rfl (Nat.le_of_ble_eq_true rfl) (fun X _ E => mb_X4_ofStubs n h c I E (fun r h e q => by subst e; exact ⟨rfl, q⟩))
def B_ofAll (σ : mSt) (n c : Nat) (i : Nat) (s : Int32) : Int32 :=
  s + (σ.2 9 (30 + 8 * i + c))
set_option maxHeartbeats 4000000 in
theorem ml_ofAll {X : zX} {w : zWd} {m : Nat} {ad : Nat → Nat} {h0 : zH} {σ : mSt} {P : Option Value → zH → Prop} {PX : Nat → zH → Prop} (n c : Nat) (I : MI (σ.2 9) n) (hc : c < 8) (s0 : Int32)  (E : zOK X w RX4 cX4_ofAll 4 1 21 [] (some .int) "ofAll") (kx : Z X w 4 (zQ X w P PX) (mS m ad h0 σ) 0 0 [(0, .ref m), (1, .int (nI c)), (2, .int ((iterN (B_ofAll σ n c) s0 n))), (3, .int (nI n))] 33 []) : ∀ d i, i + d = n → Z X w 4 (zQ X w P PX) (mS m ad h0 σ) 0 0 [(0, .ref m), (1, .int (nI c)), (2, .int ((iterN (B_ofAll σ n c) s0 i))), (3, .int (nI i))] 4 [] := by
  intro d
  induction d with
  | zero =>
    intro i hi
    have hi : i = n := by omega
    rw [hi]
    have hn12 := I.2.1
    refine z_iload_n E dX4_ofAll_4 rfl 3 rfl ?_
    refine z_aload_n E dX4_ofAll_5 rfl 0 rfl ?_
    refine m_get E 9 (by decide) rfl q1679 rfl dX4_ofAll_6 ?_
    refine z_iconst (v := 0) E dX4_ofAll_9 (by decide) ?_
    refine m_ald E (j := 9) (q := 0) (by decide) (by show _ < 126; omega) (by omega) dX4_ofAll_10 ?_
    refine z_top (I.1) ?_
    refine z_icmp_geN (a := n) (b := n) (tgt := 33) E (by omega) (by omega) dX4_ofAll_11 (by decide) (fun c11 => ?_) (fun c11 => absurd c11 (by omega))
    exact kx
  | succ d ih =>
    intro i hi
    have ih1 := ih (i + 1) (by omega)
    have hn12 := I.2.1
    rw [iterN_s] at ih1
    generalize hs : iterN (B_ofAll σ n c) s0 i = s at ih1  ⊢
    refine z_iload_n E dX4_ofAll_4 rfl 3 rfl ?_
    refine z_aload_n E dX4_ofAll_5 rfl 0 rfl ?_
    refine m_get E 9 (by decide) rfl q1679 rfl dX4_ofAll_6 ?_
    refine z_iconst (v := 0) E dX4_ofAll_9 (by decide) ?_
    refine m_ald E (j := 9) (q := 0) (by decide) (by show _ < 126; omega) (by omega) dX4_ofAll_10 ?_
    refine z_top (I.1) ?_
    refine z_icmp_geN (a := i) (b := n) (tgt := 33) E (by omega) (by omega) dX4_ofAll_11 (by decide) (fun c11 => absurd c11 (by omega)) (fun c11 => ?_)
    refine z_iload_n E dX4_ofAll_14 rfl 2 rfl ?_
    refine z_aload_n E dX4_ofAll_15 rfl 0 rfl ?_
    refine m_get E 9 (by decide) rfl q1679 rfl dX4_ofAll_16 ?_
    refine z_iload_n E dX4_ofAll_19 rfl 3 rfl ?_
    refine z_iload_n E dX4_ofAll_20 rfl 1 rfl ?_
    refine z_callSi E (rest := [.ref (ad 9), .int s]) (k' := 0) (n' := 0) cs_X4_in (mm_X4_in i c) q1790 rfl rfl (Nat.le_of_ble_eq_true rfl) (Nat.le_of_ble_eq_true rfl) (Nat.le_of_ble_eq_true rfl) dX4_ofAll_21 (Nat.le_refl _) (Nat.le_refl _) ?_
    refine m_ald E (j := 9) (q := 30 + 8 * i + c) (by decide) (by show _ < 126; omega) (by omega) dX4_ofAll_24 ?_
    refine z_iadd E dX4_ofAll_25 ?_
    refine z_istore_n (lv' := [(2, .int (s + (σ.2 9 (30 + 8 * i + c)))), (0, .ref m), (1, .int (nI c)), (3, .int (nI i))]) E dX4_ofAll_26 rfl (by decide) rfl ?_
    refine z_iinc (v := nI (i + 1)) (lv' := [(3, .int (nI (i + 1))), (2, .int (s + (σ.2 9 (30 + 8 * i + c)))), (0, .ref m), (1, .int (nI c))]) E dX4_ofAll_27 (j := 3) rfl (nI_add _ 1) (by decide) rfl ?_
    refine z_goto (tgt := 4) E dX4_ofAll_30 (by decide) ?_
    refine z_sub (lv' := [(0, .ref m), (1, .int (nI c)), (2, .int (s + (σ.2 9 (30 + 8 * i + c)))), (3, .int (nI (i + 1)))]) [2, 3, 1, 0] rfl ?_
    exact ih1
theorem cv_X4_ofAll : zCV yX4_ofAll RX4 cX4_ofAll 4 (some .int) 1 := ⟨⟨q2040, qs76, q95, q2041⟩, by decide +kernel⟩
def M_ofAll (σ : mSt) (n c : Nat) : Int32 :=
  (iterN (B_ofAll σ n c) 0 n)
set_option maxHeartbeats 4000000 in
theorem mb_X4_ofAll {X : zX} {w : zWd} {m : Nat} {ad : Nat → Nat} {h0 : zH} {σ : mSt} {P : Option Value → zH → Prop} {PX : Nat → zH → Prop} (n c : Nat) (I : MI (σ.2 9) n) (hc : c < 8) (E : zOK X w RX4 cX4_ofAll 4 1 21 [] (some .int) "ofAll") (hP : ∀ r9 h9, r9 = M_ofAll σ n c → (mS m ad h0 σ) h9 → P (some (.int r9)) h9) : Z X w 4 (zQ X w P PX) (mS m ad h0 σ) 0 0 [(0, .ref m), (1, .int (nI c))] 0 [] := by
  have hn12 := I.2.1
  refine z_iconst (v := 0) E dX4_ofAll_0 (by decide) ?_
  refine z_istore_n (lv' := [(2, .int 0), (0, .ref m), (1, .int (nI c))]) E dX4_ofAll_1 rfl (by decide) rfl ?_
  refine z_iconst (v := 0) E dX4_ofAll_2 (by decide) ?_
  refine z_istore_n (lv' := [(3, .int 0), (2, .int 0), (0, .ref m), (1, .int (nI c))]) E dX4_ofAll_3 rfl (by decide) rfl ?_
  refine z_sub (lv' := [(0, .ref m), (1, .int (nI c)), (2, .int 0), (3, .int 0)]) [2, 3, 1, 0] rfl ?_
  refine ml_ofAll n c I (by omega) 0  E ?_ n 0 (by omega)
  refine z_iload_n E dX4_ofAll_33 rfl 2 rfl ?_
  exact z_iret E dX4_ofAll_34 (fun h9 q9 => hP _ h9 (by unfold M_ofAll; rfl) q9)
theorem mm_X4_ofAll {l : Launch} {w : zWd} {m : Nat} {ad : Nat → Nat} {h0 : zH} {σ : mSt} (n c : Nat) (I : MI (σ.2 9) n) (hc : c < 8) : ZM l w yX4_ofAll (ws_ yX4_ofAll cX4_ofAll 4 (some .int)) 1 21 0 0 [.ref m, .int (nI c)] (mS m ad h0 σ) (zri (M_ofAll σ n c) (mS m ad h0 σ)) zno :=
  zm_of (by decide) rfl (Nat.le_of_ble_eq_true rfl) (fun X _ E => mb_X4_ofAll n c I hc E (fun r h e q => by subst e; exact ⟨rfl, q⟩))
def B_opens (σ : mSt)  (i : Nat) (s : Int32) : Int32 :=
  s + (σ.2 9 (6 + 4 * i + 0))
set_option maxHeartbeats 4000000 in
theorem ml_opens {X : zX} {w : zWd} {m : Nat} {ad : Nat → Nat} {h0 : zH} {σ : mSt} {P : Option Value → zH → Prop} {PX : Nat → zH → Prop}   (s0 : Int32)  (E : zOK X w RX4 cX4_opens 3 1 21 [] (some .int) "opens") (kx : Z X w 3 (zQ X w P PX) (mS m ad h0 σ) 0 0 [(0, .ref m), (1, .int ((iterN (B_opens σ) s0 6))), (2, .int (nI 6))] 29 []) : ∀ d i, i + d = 6 → Z X w 3 (zQ X w P PX) (mS m ad h0 σ) 0 0 [(0, .ref m), (1, .int ((iterN (B_opens σ) s0 i))), (2, .int (nI i))] 4 [] := by
  intro d
  induction d with
  | zero =>
    intro i hi
    have hi : i = 6 := by omega
    rw [hi]
    refine z_iload_n E dX4_opens_4 rfl 2 rfl ?_
    refine z_bipush (v := 6) E dX4_opens_5 (by decide) ?_
    refine z_icmp_geN (a := 6) (b := 6) (tgt := 29) E (by omega) (by omega) dX4_opens_7 (by decide) (fun c7 => ?_) (fun c7 => absurd c7 (by omega))
    exact kx
  | succ d ih =>
    intro i hi
    have ih1 := ih (i + 1) (by omega)
    rw [iterN_s] at ih1
    generalize hs : iterN (B_opens σ) s0 i = s at ih1  ⊢
    refine z_iload_n E dX4_opens_4 rfl 2 rfl ?_
    refine z_bipush (v := 6) E dX4_opens_5 (by decide) ?_
    refine z_icmp_geN (a := i) (b := 6) (tgt := 29) E (by omega) (by omega) dX4_opens_7 (by decide) (fun c7 => absurd c7 (by omega)) (fun c7 => ?_)
    refine z_iload_n E dX4_opens_10 rfl 1 rfl ?_
    refine z_aload_n E dX4_opens_11 rfl 0 rfl ?_
    refine m_get E 9 (by decide) rfl q1679 rfl dX4_opens_12 ?_
    refine z_iload_n E dX4_opens_15 rfl 2 rfl ?_
    refine z_iconst (v := 0) E dX4_opens_16 (by decide) ?_
    refine z_callSi E (rest := [.ref (ad 9), .int s]) (k' := 0) (n' := 0) cs_X4_at (mm_X4_at i 0) q1667 rfl rfl (Nat.le_of_ble_eq_true rfl) (Nat.le_of_ble_eq_true rfl) (Nat.le_of_ble_eq_true rfl) dX4_opens_17 (Nat.le_refl _) (Nat.le_refl _) ?_
    refine m_ald E (j := 9) (q := 6 + 4 * i + 0) (by decide) (by show _ < 126; omega) (by omega) dX4_opens_20 ?_
    refine z_iadd E dX4_opens_21 ?_
    refine z_istore_n (lv' := [(1, .int (s + (σ.2 9 (6 + 4 * i + 0)))), (0, .ref m), (2, .int (nI i))]) E dX4_opens_22 rfl (by decide) rfl ?_
    refine z_iinc (v := nI (i + 1)) (lv' := [(2, .int (nI (i + 1))), (1, .int (s + (σ.2 9 (6 + 4 * i + 0)))), (0, .ref m)]) E dX4_opens_23 (j := 2) rfl (nI_add _ 1) (by decide) rfl ?_
    refine z_goto (tgt := 4) E dX4_opens_26 (by decide) ?_
    refine z_sub (lv' := [(0, .ref m), (1, .int (s + (σ.2 9 (6 + 4 * i + 0)))), (2, .int (nI (i + 1)))]) [2, 1, 0] rfl ?_
    exact ih1
theorem cv_X4_opens : zCV yX4_opens RX4 cX4_opens 3 (some .int) 0 := ⟨⟨q1912, qs60, q95, q1913⟩, by decide +kernel⟩
def M_opens (σ : mSt)  : Int32 :=
  (iterN (B_opens σ ) 0 6)
set_option maxHeartbeats 4000000 in
theorem mb_X4_opens {X : zX} {w : zWd} {m : Nat} {ad : Nat → Nat} {h0 : zH} {σ : mSt} {P : Option Value → zH → Prop} {PX : Nat → zH → Prop}   (E : zOK X w RX4 cX4_opens 3 1 21 [] (some .int) "opens") (hP : ∀ r9 h9, r9 = M_opens σ → (mS m ad h0 σ) h9 → P (some (.int r9)) h9) : Z X w 3 (zQ X w P PX) (mS m ad h0 σ) 0 0 [(0, .ref m)] 0 [] := by
  refine z_iconst (v := 0) E dX4_opens_0 (by decide) ?_
  refine z_istore_n (lv' := [(1, .int 0), (0, .ref m)]) E dX4_opens_1 rfl (by decide) rfl ?_
  refine z_iconst (v := 0) E dX4_opens_2 (by decide) ?_
  refine z_istore_n (lv' := [(2, .int 0), (1, .int 0), (0, .ref m)]) E dX4_opens_3 rfl (by decide) rfl ?_
  refine z_sub (lv' := [(0, .ref m), (1, .int 0), (2, .int 0)]) [2, 1, 0] rfl ?_
  refine ml_opens   0  E ?_ 6 0 (by omega)
  refine z_iload_n E dX4_opens_29 rfl 1 rfl ?_
  exact z_iret E dX4_opens_30 (fun h9 q9 => hP _ h9 (by unfold M_opens; rfl) q9)
theorem mm_X4_opens {l : Launch} {w : zWd} {m : Nat} {ad : Nat → Nat} {h0 : zH} {σ : mSt}   : ZM l w yX4_opens (ws_ yX4_opens cX4_opens 3 (some .int)) 1 21 0 0 [.ref m] (mS m ad h0 σ) (zri (M_opens σ) (mS m ad h0 σ)) zno :=
  zm_of (by decide) rfl (Nat.le_of_ble_eq_true rfl) (fun X _ E => mb_X4_opens   E (fun r h e q => by subst e; exact ⟨rfl, q⟩))
def B_pooled (σ : mSt)  (i : Nat) (s : Int32) : Int32 :=
  s + (σ.2 9 (6 + 4 * i + 3))
set_option maxHeartbeats 4000000 in
theorem ml_pooled {X : zX} {w : zWd} {m : Nat} {ad : Nat → Nat} {h0 : zH} {σ : mSt} {P : Option Value → zH → Prop} {PX : Nat → zH → Prop}   (s0 : Int32)  (E : zOK X w RX4 cX4_pooled 3 1 21 [] (some .int) "pooled") (kx : Z X w 3 (zQ X w P PX) (mS m ad h0 σ) 0 0 [(0, .ref m), (1, .int ((iterN (B_pooled σ) s0 6))), (2, .int (nI 6))] 29 []) : ∀ d i, i + d = 6 → Z X w 3 (zQ X w P PX) (mS m ad h0 σ) 0 0 [(0, .ref m), (1, .int ((iterN (B_pooled σ) s0 i))), (2, .int (nI i))] 4 [] := by
  intro d
  induction d with
  | zero =>
    intro i hi
    have hi : i = 6 := by omega
    rw [hi]
    refine z_iload_n E dX4_pooled_4 rfl 2 rfl ?_
    refine z_bipush (v := 6) E dX4_pooled_5 (by decide) ?_
    refine z_icmp_geN (a := 6) (b := 6) (tgt := 29) E (by omega) (by omega) dX4_pooled_7 (by decide) (fun c7 => ?_) (fun c7 => absurd c7 (by omega))
    exact kx
  | succ d ih =>
    intro i hi
    have ih1 := ih (i + 1) (by omega)
    rw [iterN_s] at ih1
    generalize hs : iterN (B_pooled σ) s0 i = s at ih1  ⊢
    refine z_iload_n E dX4_pooled_4 rfl 2 rfl ?_
    refine z_bipush (v := 6) E dX4_pooled_5 (by decide) ?_
    refine z_icmp_geN (a := i) (b := 6) (tgt := 29) E (by omega) (by omega) dX4_pooled_7 (by decide) (fun c7 => absurd c7 (by omega)) (fun c7 => ?_)
    refine z_iload_n E dX4_pooled_10 rfl 1 rfl ?_
    refine z_aload_n E dX4_pooled_11 rfl 0 rfl ?_
    refine m_get E 9 (by decide) rfl q1679 rfl dX4_pooled_12 ?_
    refine z_iload_n E dX4_pooled_15 rfl 2 rfl ?_
    refine z_iconst (v := 3) E dX4_pooled_16 (by decide) ?_
    refine z_callSi E (rest := [.ref (ad 9), .int s]) (k' := 0) (n' := 0) cs_X4_at (mm_X4_at i 3) q1667 rfl rfl (Nat.le_of_ble_eq_true rfl) (Nat.le_of_ble_eq_true rfl) (Nat.le_of_ble_eq_true rfl) dX4_pooled_17 (Nat.le_refl _) (Nat.le_refl _) ?_
    refine m_ald E (j := 9) (q := 6 + 4 * i + 3) (by decide) (by show _ < 126; omega) (by omega) dX4_pooled_20 ?_
    refine z_iadd E dX4_pooled_21 ?_
    refine z_istore_n (lv' := [(1, .int (s + (σ.2 9 (6 + 4 * i + 3)))), (0, .ref m), (2, .int (nI i))]) E dX4_pooled_22 rfl (by decide) rfl ?_
    refine z_iinc (v := nI (i + 1)) (lv' := [(2, .int (nI (i + 1))), (1, .int (s + (σ.2 9 (6 + 4 * i + 3)))), (0, .ref m)]) E dX4_pooled_23 (j := 2) rfl (nI_add _ 1) (by decide) rfl ?_
    refine z_goto (tgt := 4) E dX4_pooled_26 (by decide) ?_
    refine z_sub (lv' := [(0, .ref m), (1, .int (s + (σ.2 9 (6 + 4 * i + 3)))), (2, .int (nI (i + 1)))]) [2, 1, 0] rfl ?_
    exact ih1
theorem cv_X4_pooled : zCV yX4_pooled RX4 cX4_pooled 3 (some .int) 0 := ⟨⟨q1855, qs52, q95, q1856⟩, by decide +kernel⟩
def M_pooled (σ : mSt)  : Int32 :=
  (iterN (B_pooled σ ) 0 6)
set_option maxHeartbeats 4000000 in
theorem mb_X4_pooled {X : zX} {w : zWd} {m : Nat} {ad : Nat → Nat} {h0 : zH} {σ : mSt} {P : Option Value → zH → Prop} {PX : Nat → zH → Prop}   (E : zOK X w RX4 cX4_pooled 3 1 21 [] (some .int) "pooled") (hP : ∀ r9 h9, r9 = M_pooled σ → (mS m ad h0 σ) h9 → P (some (.int r9)) h9) : Z X w 3 (zQ X w P PX) (mS m ad h0 σ) 0 0 [(0, .ref m)] 0 [] := by
  refine z_iconst (v := 0) E dX4_pooled_0 (by decide) ?_
  refine z_istore_n (lv' := [(1, .int 0), (0, .ref m)]) E dX4_pooled_1 rfl (by decide) rfl ?_
  refine z_iconst (v := 0) E dX4_pooled_2 (by decide) ?_
  refine z_istore_n (lv' := [(2, .int 0), (1, .int 0), (0, .ref m)]) E dX4_pooled_3 rfl (by decide) rfl ?_
  refine z_sub (lv' := [(0, .ref m), (1, .int 0), (2, .int 0)]) [2, 1, 0] rfl ?_
  refine ml_pooled   0  E ?_ 6 0 (by omega)
  refine z_iload_n E dX4_pooled_29 rfl 1 rfl ?_
  exact z_iret E dX4_pooled_30 (fun h9 q9 => hP _ h9 (by unfold M_pooled; rfl) q9)
theorem mm_X4_pooled {l : Launch} {w : zWd} {m : Nat} {ad : Nat → Nat} {h0 : zH} {σ : mSt}   : ZM l w yX4_pooled (ws_ yX4_pooled cX4_pooled 3 (some .int)) 1 21 0 0 [.ref m] (mS m ad h0 σ) (zri (M_pooled σ) (mS m ad h0 σ)) zno :=
  zm_of (by decide) rfl (Nat.le_of_ble_eq_true rfl) (fun X _ E => mb_X4_pooled   E (fun r h e q => by subst e; exact ⟨rfl, q⟩))
def B_stores (σ : mSt)  (i : Nat) (s : Int32) : Int32 :=
  s + (σ.2 9 (6 + 4 * i + 2))
set_option maxHeartbeats 4000000 in
theorem ml_stores {X : zX} {w : zWd} {m : Nat} {ad : Nat → Nat} {h0 : zH} {σ : mSt} {P : Option Value → zH → Prop} {PX : Nat → zH → Prop}   (s0 : Int32)  (E : zOK X w RX4 cX4_stores 3 1 21 [] (some .int) "stores") (kx : Z X w 3 (zQ X w P PX) (mS m ad h0 σ) 0 0 [(0, .ref m), (1, .int ((iterN (B_stores σ) s0 6))), (2, .int (nI 6))] 29 []) : ∀ d i, i + d = 6 → Z X w 3 (zQ X w P PX) (mS m ad h0 σ) 0 0 [(0, .ref m), (1, .int ((iterN (B_stores σ) s0 i))), (2, .int (nI i))] 4 [] := by
  intro d
  induction d with
  | zero =>
    intro i hi
    have hi : i = 6 := by omega
    rw [hi]
    refine z_iload_n E dX4_stores_4 rfl 2 rfl ?_
    refine z_bipush (v := 6) E dX4_stores_5 (by decide) ?_
    refine z_icmp_geN (a := 6) (b := 6) (tgt := 29) E (by omega) (by omega) dX4_stores_7 (by decide) (fun c7 => ?_) (fun c7 => absurd c7 (by omega))
    exact kx
  | succ d ih =>
    intro i hi
    have ih1 := ih (i + 1) (by omega)
    rw [iterN_s] at ih1
    generalize hs : iterN (B_stores σ) s0 i = s at ih1  ⊢
    refine z_iload_n E dX4_stores_4 rfl 2 rfl ?_
    refine z_bipush (v := 6) E dX4_stores_5 (by decide) ?_
    refine z_icmp_geN (a := i) (b := 6) (tgt := 29) E (by omega) (by omega) dX4_stores_7 (by decide) (fun c7 => absurd c7 (by omega)) (fun c7 => ?_)
    refine z_iload_n E dX4_stores_10 rfl 1 rfl ?_
    refine z_aload_n E dX4_stores_11 rfl 0 rfl ?_
    refine m_get E 9 (by decide) rfl q1679 rfl dX4_stores_12 ?_
    refine z_iload_n E dX4_stores_15 rfl 2 rfl ?_
    refine z_iconst (v := 2) E dX4_stores_16 (by decide) ?_
    refine z_callSi E (rest := [.ref (ad 9), .int s]) (k' := 0) (n' := 0) cs_X4_at (mm_X4_at i 2) q1667 rfl rfl (Nat.le_of_ble_eq_true rfl) (Nat.le_of_ble_eq_true rfl) (Nat.le_of_ble_eq_true rfl) dX4_stores_17 (Nat.le_refl _) (Nat.le_refl _) ?_
    refine m_ald E (j := 9) (q := 6 + 4 * i + 2) (by decide) (by show _ < 126; omega) (by omega) dX4_stores_20 ?_
    refine z_iadd E dX4_stores_21 ?_
    refine z_istore_n (lv' := [(1, .int (s + (σ.2 9 (6 + 4 * i + 2)))), (0, .ref m), (2, .int (nI i))]) E dX4_stores_22 rfl (by decide) rfl ?_
    refine z_iinc (v := nI (i + 1)) (lv' := [(2, .int (nI (i + 1))), (1, .int (s + (σ.2 9 (6 + 4 * i + 2)))), (0, .ref m)]) E dX4_stores_23 (j := 2) rfl (nI_add _ 1) (by decide) rfl ?_
    refine z_goto (tgt := 4) E dX4_stores_26 (by decide) ?_
    refine z_sub (lv' := [(0, .ref m), (1, .int (s + (σ.2 9 (6 + 4 * i + 2)))), (2, .int (nI (i + 1)))]) [2, 1, 0] rfl ?_
    exact ih1
theorem cv_X4_stores : zCV yX4_stores RX4 cX4_stores 3 (some .int) 0 := ⟨⟨q2044, qs77, q95, q2045⟩, by decide +kernel⟩
def M_stores (σ : mSt)  : Int32 :=
  (iterN (B_stores σ ) 0 6)
set_option maxHeartbeats 4000000 in
theorem mb_X4_stores {X : zX} {w : zWd} {m : Nat} {ad : Nat → Nat} {h0 : zH} {σ : mSt} {P : Option Value → zH → Prop} {PX : Nat → zH → Prop}   (E : zOK X w RX4 cX4_stores 3 1 21 [] (some .int) "stores") (hP : ∀ r9 h9, r9 = M_stores σ → (mS m ad h0 σ) h9 → P (some (.int r9)) h9) : Z X w 3 (zQ X w P PX) (mS m ad h0 σ) 0 0 [(0, .ref m)] 0 [] := by
  refine z_iconst (v := 0) E dX4_stores_0 (by decide) ?_
  refine z_istore_n (lv' := [(1, .int 0), (0, .ref m)]) E dX4_stores_1 rfl (by decide) rfl ?_
  refine z_iconst (v := 0) E dX4_stores_2 (by decide) ?_
  refine z_istore_n (lv' := [(2, .int 0), (1, .int 0), (0, .ref m)]) E dX4_stores_3 rfl (by decide) rfl ?_
  refine z_sub (lv' := [(0, .ref m), (1, .int 0), (2, .int 0)]) [2, 1, 0] rfl ?_
  refine ml_stores   0  E ?_ 6 0 (by omega)
  refine z_iload_n E dX4_stores_29 rfl 1 rfl ?_
  exact z_iret E dX4_stores_30 (fun h9 q9 => hP _ h9 (by unfold M_stores; rfl) q9)
theorem mm_X4_stores {l : Launch} {w : zWd} {m : Nat} {ad : Nat → Nat} {h0 : zH} {σ : mSt}   : ZM l w yX4_stores (ws_ yX4_stores cX4_stores 3 (some .int)) 1 21 0 0 [.ref m] (mS m ad h0 σ) (zri (M_stores σ) (mS m ad h0 σ)) zno :=
  zm_of (by decide) rfl (Nat.le_of_ble_eq_true rfl) (fun X _ E => mb_X4_stores   E (fun r h e q => by subst e; exact ⟨rfl, q⟩))
theorem cv_X4_claim : zCV yX4_claim RX4 cX4_claim 2 (some .int) 1 := ⟨⟨q1871, qs55, q95, q1872⟩, by decide +kernel⟩
def M_claim (σ : mSt) (n h : Nat) : Int32 :=
  if (M_isOpen σ h) = 0 then ((0 : Int32)) else ((σ.2 9 (6 + 4 * h + 3)) + (M_owed σ n (nI h)))
set_option maxHeartbeats 4000000 in
theorem mb_X4_claim {X : zX} {w : zWd} {m : Nat} {ad : Nat → Nat} {h0 : zH} {σ : mSt} {P : Option Value → zH → Prop} {PX : Nat → zH → Prop} (n h : Nat) (I : MI (σ.2 9) n) (hh : h < 6) (E : zOK X w RX4 cX4_claim 2 2 44 [] (some .int) "claim") (hP : ∀ r9 h9, r9 = M_claim σ n h → (mS m ad h0 σ) h9 → P (some (.int r9)) h9) : Z X w 2 (zQ X w P PX) (mS m ad h0 σ) 0 0 [(0, .ref m), (1, .int (nI h))] 0 [] := by
  have hn12 := I.2.1
  refine z_aload_n E dX4_claim_0 rfl 0 rfl ?_
  refine z_iload_n E dX4_claim_1 rfl 1 rfl ?_
  refine z_callVi E (rest := []) (k' := 0) (n' := 0) cv_X4_isOpen (mm_X4_isOpen (σ := σ) h (by omega)) q1774 rfl mS_o rfl rfl (Nat.le_of_ble_eq_true rfl) (Nat.le_of_ble_eq_true rfl) (Nat.le_of_ble_eq_true rfl) dX4_claim_2 (Nat.le_refl _) (Nat.le_refl _) ?_
  have J5 : ∀ (j5_0 : Int32), j5_0 = (if (M_isOpen σ h) = 0 then ((0 : Int32)) else ((σ.2 9 (6 + 4 * h + 3)) + (M_owed σ n (nI h)))) → Z X w 2 (zQ X w P PX) (mS m ad h0 σ) 0 0 [(0, .ref m), (1, .int (nI h))] 28 [.int j5_0] := by
    intro j5_0 ej5_0
    subst ej5_0
    exact z_iret E dX4_claim_28 (fun h9 q9 => hP _ h9 (by unfold M_claim; rfl) q9)
  refine z_if_eq (tgt := 27) E dX4_claim_5 (by decide) (fun c5 => ?_) (fun c5 => ?_)
  · refine z_iconst (v := 0) E dX4_claim_27 (by decide) ?_
    exact J5 _ ((if_pos c5).symm)
  · refine z_aload_n E dX4_claim_8 rfl 0 rfl ?_
    refine m_get E 9 (by decide) rfl q1679 rfl dX4_claim_9 ?_
    refine z_iload_n E dX4_claim_12 rfl 1 rfl ?_
    refine z_iconst (v := 3) E dX4_claim_13 (by decide) ?_
    refine z_callSi E (rest := [.ref (ad 9)]) (k' := 0) (n' := 0) cs_X4_at (mm_X4_at h 3) q1667 rfl rfl (Nat.le_of_ble_eq_true rfl) (Nat.le_of_ble_eq_true rfl) (Nat.le_of_ble_eq_true rfl) dX4_claim_14 (Nat.le_refl _) (Nat.le_refl _) ?_
    refine m_ald E (j := 9) (q := 6 + 4 * h + 3) (by decide) (by show _ < 126; omega) (by omega) dX4_claim_17 ?_
    refine z_aload_n E dX4_claim_18 rfl 0 rfl ?_
    refine z_iload_n E dX4_claim_19 rfl 1 rfl ?_
    refine z_callVi E (rest := [.int (σ.2 9 (6 + 4 * h + 3))]) (k' := 0) (n' := 0) cv_X4_owed (mm_X4_owed (σ := σ) n (nI h) (I)) q1825 rfl mS_o rfl rfl (Nat.le_of_ble_eq_true rfl) (Nat.le_of_ble_eq_true rfl) (Nat.le_of_ble_eq_true rfl) dX4_claim_20 (Nat.le_refl _) (Nat.le_refl _) ?_
    refine z_iadd E dX4_claim_23 ?_
    refine z_goto (tgt := 28) E dX4_claim_24 (by decide) ?_
    exact J5 _ ((if_neg c5).symm)
theorem mm_X4_claim {l : Launch} {w : zWd} {m : Nat} {ad : Nat → Nat} {h0 : zH} {σ : mSt} (n h : Nat) (I : MI (σ.2 9) n) (hh : h < 6) : ZM l w yX4_claim (ws_ yX4_claim cX4_claim 2 (some .int)) 2 44 0 0 [.ref m, .int (nI h)] (mS m ad h0 σ) (zri (M_claim σ n h) (mS m ad h0 σ)) zno :=
  zm_of (by decide) rfl (Nat.le_of_ble_eq_true rfl) (fun X _ E => mb_X4_claim n h I hh E (fun r h e q => by subst e; exact ⟨rfl, q⟩))
def B_claims (σ : mSt) (n : Nat) (i : Nat) (s : Int32) : Int32 :=
  s + (M_claim σ n i)
set_option maxHeartbeats 4000000 in
theorem ml_claims {X : zX} {w : zWd} {m : Nat} {ad : Nat → Nat} {h0 : zH} {σ : mSt} {P : Option Value → zH → Prop} {PX : Nat → zH → Prop} (n : Nat) (I : MI (σ.2 9) n) (s0 : Int32)  (E : zOK X w RX4 cX4_claims 3 3 65 [] (some .int) "claims") (kx : Z X w 3 (zQ X w P PX) (mS m ad h0 σ) 0 0 [(0, .ref m), (1, .int ((iterN (B_claims σ n) s0 6))), (2, .int (nI 6))] 24 []) : ∀ d i, i + d = 6 → Z X w 3 (zQ X w P PX) (mS m ad h0 σ) 0 0 [(0, .ref m), (1, .int ((iterN (B_claims σ n) s0 i))), (2, .int (nI i))] 4 [] := by
  intro d
  induction d with
  | zero =>
    intro i hi
    have hi : i = 6 := by omega
    rw [hi]
    refine z_iload_n E dX4_claims_4 rfl 2 rfl ?_
    refine z_bipush (v := 6) E dX4_claims_5 (by decide) ?_
    refine z_icmp_geN (a := 6) (b := 6) (tgt := 24) E (by omega) (by omega) dX4_claims_7 (by decide) (fun c7 => ?_) (fun c7 => absurd c7 (by omega))
    exact kx
  | succ d ih =>
    intro i hi
    have ih1 := ih (i + 1) (by omega)
    rw [iterN_s] at ih1
    generalize hs : iterN (B_claims σ n) s0 i = s at ih1  ⊢
    refine z_iload_n E dX4_claims_4 rfl 2 rfl ?_
    refine z_bipush (v := 6) E dX4_claims_5 (by decide) ?_
    refine z_icmp_geN (a := i) (b := 6) (tgt := 24) E (by omega) (by omega) dX4_claims_7 (by decide) (fun c7 => absurd c7 (by omega)) (fun c7 => ?_)
    refine z_iload_n E dX4_claims_10 rfl 1 rfl ?_
    refine z_aload_n E dX4_claims_11 rfl 0 rfl ?_
    refine z_iload_n E dX4_claims_12 rfl 2 rfl ?_
    refine z_callVi E (rest := [.int s]) (k' := 0) (n' := 0) cv_X4_claim (mm_X4_claim (σ := σ) n i (I) (by omega)) q1869 rfl mS_o rfl rfl (Nat.le_of_ble_eq_true rfl) (Nat.le_of_ble_eq_true rfl) (Nat.le_of_ble_eq_true rfl) dX4_claims_13 (Nat.le_refl _) (Nat.le_refl _) ?_
    refine z_iadd E dX4_claims_16 ?_
    refine z_istore_n (lv' := [(1, .int (s + (M_claim σ n i))), (0, .ref m), (2, .int (nI i))]) E dX4_claims_17 rfl (by decide) rfl ?_
    refine z_iinc (v := nI (i + 1)) (lv' := [(2, .int (nI (i + 1))), (1, .int (s + (M_claim σ n i))), (0, .ref m)]) E dX4_claims_18 (j := 2) rfl (nI_add _ 1) (by decide) rfl ?_
    refine z_goto (tgt := 4) E dX4_claims_21 (by decide) ?_
    refine z_sub (lv' := [(0, .ref m), (1, .int (s + (M_claim σ n i))), (2, .int (nI (i + 1)))]) [2, 1, 0] rfl ?_
    exact ih1
theorem cv_X4_claims : zCV yX4_claims RX4 cX4_claims 3 (some .int) 0 := ⟨⟨q1867, qs54, q95, q1868⟩, by decide +kernel⟩
def M_claims (σ : mSt) (n : Nat) : Int32 :=
  (iterN (B_claims σ n) 0 6)
set_option maxHeartbeats 4000000 in
theorem mb_X4_claims {X : zX} {w : zWd} {m : Nat} {ad : Nat → Nat} {h0 : zH} {σ : mSt} {P : Option Value → zH → Prop} {PX : Nat → zH → Prop} (n : Nat) (I : MI (σ.2 9) n) (E : zOK X w RX4 cX4_claims 3 3 65 [] (some .int) "claims") (hP : ∀ r9 h9, r9 = M_claims σ n → (mS m ad h0 σ) h9 → P (some (.int r9)) h9) : Z X w 3 (zQ X w P PX) (mS m ad h0 σ) 0 0 [(0, .ref m)] 0 [] := by
  have hn12 := I.2.1
  refine z_iconst (v := 0) E dX4_claims_0 (by decide) ?_
  refine z_istore_n (lv' := [(1, .int 0), (0, .ref m)]) E dX4_claims_1 rfl (by decide) rfl ?_
  refine z_iconst (v := 0) E dX4_claims_2 (by decide) ?_
  refine z_istore_n (lv' := [(2, .int 0), (1, .int 0), (0, .ref m)]) E dX4_claims_3 rfl (by decide) rfl ?_
  refine z_sub (lv' := [(0, .ref m), (1, .int 0), (2, .int 0)]) [2, 1, 0] rfl ?_
  refine ml_claims n I 0  E ?_ 6 0 (by omega)
  refine z_iload_n E dX4_claims_24 rfl 1 rfl ?_
  exact z_iret E dX4_claims_25 (fun h9 q9 => hP _ h9 (by unfold M_claims; rfl) q9)
theorem mm_X4_claims {l : Launch} {w : zWd} {m : Nat} {ad : Nat → Nat} {h0 : zH} {σ : mSt} (n : Nat) (I : MI (σ.2 9) n) : ZM l w yX4_claims (ws_ yX4_claims cX4_claims 3 (some .int)) 3 65 0 0 [.ref m] (mS m ad h0 σ) (zri (M_claims σ n) (mS m ad h0 σ)) zno :=
  zm_of (by decide) rfl (Nat.le_of_ble_eq_true rfl) (fun X _ E => mb_X4_claims n I E (fun r h e q => by subst e; exact ⟨rfl, q⟩))
def B_lays (j1 j2 : Nat) (i : Nat) (s : mSt) : mSt :=
  let s13 := setA s j1 i (s.2 j2 i)
  s13
set_option maxHeartbeats 4000000 in
theorem ml_lays {X : zX} {w : zWd} {m : Nat} {ad : Nat → Nat} {h0 : zH} {P : Option Value → zH → Prop} {PX : Nat → zH → Prop} (j1 j2 : Nat) (h1 : j1 ∈ mAr) (h2 : j2 ∈ mAr) (l1 : mlen j1 = 126) (l2 : mlen j2 = 126) (s0 : mSt)  (E : zOK X w RX4 cX4_lays 3 0 0 [] none "lays") (kx : Z X w 3 (zQ X w P PX) (mS m ad h0 ((iterN (B_lays j1 j2) s0 126))) 0 0 [(0, .ref (ad j1)), (1, .ref (ad j2)), (2, .int (nI 126))] 20 []) : ∀ d i, i + d = 126 → Z X w 3 (zQ X w P PX) (mS m ad h0 ((iterN (B_lays j1 j2) s0 i))) 0 0 [(0, .ref (ad j1)), (1, .ref (ad j2)), (2, .int (nI i))] 2 [] := by
  intro d
  induction d with
  | zero =>
    intro i hi
    have hi : i = 126 := by omega
    rw [hi]
    refine z_iload_n E dX4_lays_2 rfl 2 rfl ?_
    refine z_bipush (v := 126) E dX4_lays_3 (by decide) ?_
    refine z_icmp_geN (a := 126) (b := 126) (tgt := 20) E (by omega) (by omega) dX4_lays_5 (by decide) (fun c5 => ?_) (fun c5 => absurd c5 (by omega))
    exact kx
  | succ d ih =>
    intro i hi
    have ih1 := ih (i + 1) (by omega)
    rw [iterN_s] at ih1
    generalize hs : iterN (B_lays j1 j2) s0 i = s at ih1  ⊢
    refine z_iload_n E dX4_lays_2 rfl 2 rfl ?_
    refine z_bipush (v := 126) E dX4_lays_3 (by decide) ?_
    refine z_icmp_geN (a := i) (b := 126) (tgt := 20) E (by omega) (by omega) dX4_lays_5 (by decide) (fun c5 => absurd c5 (by omega)) (fun c5 => ?_)
    refine z_aload_n E dX4_lays_8 rfl 0 rfl ?_
    refine z_iload_n E dX4_lays_9 rfl 2 rfl ?_
    refine z_aload_n E dX4_lays_10 rfl 1 rfl ?_
    refine z_iload_n E dX4_lays_11 rfl 2 rfl ?_
    refine m_ald E (j := j2) (q := i) h2 (by rw [l2]; omega) (by omega) dX4_lays_12 ?_
    refine m_ast E (j := j1) (q := i) h1 (by rw [l1]; omega) (by omega) dX4_lays_13 ?_
    generalize hs13 : setA s j1 i (s.2 j2 i) = s13
    refine z_iinc (v := nI (i + 1)) (lv' := [(2, .int (nI (i + 1))), (0, .ref (ad j1)), (1, .ref (ad j2))]) E dX4_lays_14 (j := 2) rfl (nI_add _ 1) (by decide) rfl ?_
    refine z_goto (tgt := 2) E dX4_lays_17 (by decide) ?_
    refine z_sub (lv' := [(0, .ref (ad j1)), (1, .ref (ad j2)), (2, .int (nI (i + 1)))]) [1, 2, 0] rfl ?_
    subst hs13
    exact ih1
theorem cs_X4_lays : zCS yX4_lays cX4_lays 3 none 2 := ⟨⟨q1755, q95, q1756⟩, by decide +kernel⟩
def M_lays (σ : mSt) (j1 j2 : Nat) : mSt :=
  let s2 := (iterN (B_lays j1 j2) σ 126)
  s2
set_option maxHeartbeats 4000000 in
theorem mb_X4_lays {X : zX} {w : zWd} {m : Nat} {ad : Nat → Nat} {h0 : zH} {σ : mSt} {P : Option Value → zH → Prop} {PX : Nat → zH → Prop} (j1 j2 : Nat) (h1 : j1 ∈ mAr) (h2 : j2 ∈ mAr) (l1 : mlen j1 = 126) (l2 : mlen j2 = 126) (E : zOK X w RX4 cX4_lays 3 0 0 [] none "lays") (hP : ∀ s9 h9, s9 = M_lays σ j1 j2 → mS m ad h0 s9 h9 → P none h9) : Z X w 3 (zQ X w P PX) (mS m ad h0 σ) 0 0 [(0, .ref (ad j1)), (1, .ref (ad j2))] 0 [] := by
  refine z_iconst (v := 0) E dX4_lays_0 (by decide) ?_
  refine z_istore_n (lv' := [(2, .int 0), (0, .ref (ad j1)), (1, .ref (ad j2))]) E dX4_lays_1 rfl (by decide) rfl ?_
  refine z_sub (lv' := [(0, .ref (ad j1)), (1, .ref (ad j2)), (2, .int 0)]) [1, 2, 0] rfl ?_
  refine ml_lays j1 j2 h1 h2 l1 l2 σ  E ?_ 126 0 (by omega)
  generalize hs2 : (iterN (B_lays j1 j2) σ 126) = s2
  exact z_vret E dX4_lays_20 (fun h9 q9 => hP _ h9 (by subst hs2; unfold M_lays; rfl) q9)
theorem mm_X4_lays {l : Launch} {w : zWd} {m : Nat} {ad : Nat → Nat} {h0 : zH} {σ : mSt} (j1 j2 : Nat) (h1 : j1 ∈ mAr) (h2 : j2 ∈ mAr) (l1 : mlen j1 = 126) (l2 : mlen j2 = 126) : ZM l w yX4_lays (ws_ yX4_lays cX4_lays 3 none) 0 0 0 0 [.ref (ad j1), .ref (ad j2)] (mS m ad h0 σ) (zrv (mS m ad h0 (M_lays σ j1 j2))) zno :=
  zm_of (by decide) rfl (Nat.le_of_ble_eq_true rfl) (fun X _ E => mb_X4_lays j1 j2 h1 h2 l1 l2 E (fun s h e q => by subst e; exact ⟨rfl, q⟩))
theorem cv_X4_begins : zCV yX4_begins RX4 cX4_begins 1 none 0 := ⟨⟨q1752, qs35, q95, q1753⟩, by decide +kernel⟩
def M_begins (σ : mSt)  : mSt :=
  let s2 := setF σ 0 0
  let s13 := M_lays s2 10 9
  s13
set_option maxHeartbeats 4000000 in
theorem mb_X4_begins {X : zX} {w : zWd} {m : Nat} {ad : Nat → Nat} {h0 : zH} {σ : mSt} {P : Option Value → zH → Prop} {PX : Nat → zH → Prop}   (E : zOK X w RX4 cX4_begins 1 1 22 [] none "begins") (hP : ∀ s9 h9, s9 = M_begins σ → mS m ad h0 s9 h9 → P none h9) : Z X w 1 (zQ X w P PX) (mS m ad h0 σ) 0 0 [(0, .ref m)] 0 [] := by
  refine z_aload_n E dX4_begins_0 rfl 0 rfl ?_
  refine z_iconst (v := 0) E dX4_begins_1 (by decide) ?_
  refine m_put E 0 (by decide) q1670 rfl rfl (ty := .int) rfl rfl rfl mset_0 dX4_begins_2 ?_
  generalize hs2 : setF σ 0 0 = s2
  refine z_aload_n E dX4_begins_5 rfl 0 rfl ?_
  refine m_get E 10 (by decide) rfl q1680 rfl dX4_begins_6 ?_
  refine z_aload_n E dX4_begins_9 rfl 0 rfl ?_
  refine m_get E 9 (by decide) rfl q1679 rfl dX4_begins_10 ?_
  refine z_callSv E (rest := []) (k' := 0) (n' := 0) cs_X4_lays (mm_X4_lays (σ := s2) 10 9 (by decide) (by decide) rfl rfl) q1754 rfl rfl (Nat.le_of_ble_eq_true rfl) (Nat.le_of_ble_eq_true rfl) (Nat.le_of_ble_eq_true rfl) dX4_begins_13 (Nat.le_refl _) (Nat.le_refl _) ?_
  generalize hs13 : M_lays s2 10 9 = s13
  exact z_vret E dX4_begins_16 (fun h9 q9 => hP _ h9 (by subst hs13 hs2; unfold M_begins; rfl) q9)
theorem mm_X4_begins {l : Launch} {w : zWd} {m : Nat} {ad : Nat → Nat} {h0 : zH} {σ : mSt}   : ZM l w yX4_begins (ws_ yX4_begins cX4_begins 1 none) 1 22 0 0 [.ref m] (mS m ad h0 σ) (zrv (mS m ad h0 (M_begins σ))) zno :=
  zm_of (by decide) rfl (Nat.le_of_ble_eq_true rfl) (fun X _ E => mb_X4_begins   E (fun s h e q => by subst e; exact ⟨rfl, q⟩))
