/-! Rules of the reference's fields and arrays (printed by laym.py) -/
set_option maxRecDepth 100000
section MR
variable {α β : Type} {C : Nat} {sa : Nat → Nat} {P : bp_M β} {s : bv_S} {Q : (bv_E ⊕ β) → bv_S → Prop}
theorem m_is (k : sw C sa P s Q) : sw C sa (bp_is 4 (C + 1471) P) s Q := sw_is (by decide) rfl k
theorem mg_0 {K : Int32 → bp_M β} (k : sw C sa (K (bv_i s 1471 0)) s Q) : sw C sa (bp_getI 4 0 (C + 1471) K) s Q := sw_getI (by decide) rfl k
theorem mp_0 {v : Int32} (k : sw C sa P (bv_I s 1471 0 v) Q) : sw C sa (bp_putI 4 0 (C + 1471) v P) s Q := sw_putI (by decide) rfl (by decide) k
theorem mg_1 {K : Int32 → bp_M β} (k : sw C sa (K (bv_i s 1471 1)) s Q) : sw C sa (bp_getI 4 1 (C + 1471) K) s Q := sw_getI (by decide) rfl k
theorem mp_1 {v : Int32} (k : sw C sa P (bv_I s 1471 1 v) Q) : sw C sa (bp_putI 4 1 (C + 1471) v P) s Q := sw_putI (by decide) rfl (by decide) k
theorem mg_2 {K : Int32 → bp_M β} (k : sw C sa (K (bv_i s 1471 2)) s Q) : sw C sa (bp_getI 4 2 (C + 1471) K) s Q := sw_getI (by decide) rfl k
theorem mp_2 {v : Int32} (k : sw C sa P (bv_I s 1471 2 v) Q) : sw C sa (bp_putI 4 2 (C + 1471) v P) s Q := sw_putI (by decide) rfl (by decide) k
theorem mg_13 {K : Int32 → bp_M β} (k : sw C sa (K (bv_i s 1471 13)) s Q) : sw C sa (bp_getI 4 13 (C + 1471) K) s Q := sw_getI (by decide) rfl k
theorem mp_13 {v : Int32} (k : sw C sa P (bv_I s 1471 13 v) Q) : sw C sa (bp_putI 4 13 (C + 1471) v P) s Q := sw_putI (by decide) rfl (by decide) k
theorem mg_15 {K : Int32 → bp_M β} (k : sw C sa (K (bv_i s 1471 15)) s Q) : sw C sa (bp_getI 4 15 (C + 1471) K) s Q := sw_getI (by decide) rfl k
theorem mp_15 {v : Int32} (k : sw C sa P (bv_I s 1471 15 v) Q) : sw C sa (bp_putI 4 15 (C + 1471) v P) s Q := sw_putI (by decide) rfl (by decide) k
theorem mg_17 {K : Int32 → bp_M β} (k : sw C sa (K (bv_i s 1471 17)) s Q) : sw C sa (bp_getI 4 17 (C + 1471) K) s Q := sw_getI (by decide) rfl k
theorem mp_17 {v : Int32} (k : sw C sa P (bv_I s 1471 17 v) Q) : sw C sa (bp_putI 4 17 (C + 1471) v P) s Q := sw_putI (by decide) rfl (by decide) k
theorem mg_19 {K : Int32 → bp_M β} (k : sw C sa (K (bv_i s 1471 19)) s Q) : sw C sa (bp_getI 4 19 (C + 1471) K) s Q := sw_getI (by decide) rfl k
theorem mp_19 {v : Int32} (k : sw C sa P (bv_I s 1471 19 v) Q) : sw C sa (bp_putI 4 19 (C + 1471) v P) s Q := sw_putI (by decide) rfl (by decide) k
theorem mg_20 {K : Int32 → bp_M β} (k : sw C sa (K (bv_i s 1471 20)) s Q) : sw C sa (bp_getI 4 20 (C + 1471) K) s Q := sw_getI (by decide) rfl k
theorem mp_20 {v : Int32} (k : sw C sa P (bv_I s 1471 20 v) Q) : sw C sa (bp_putI 4 20 (C + 1471) v P) s Q := sw_putI (by decide) rfl (by decide) k
theorem mg_21 {K : Int32 → bp_M β} (k : sw C sa (K (bv_i s 1471 21)) s Q) : sw C sa (bp_getI 4 21 (C + 1471) K) s Q := sw_getI (by decide) rfl k
theorem mp_21 {v : Int32} (k : sw C sa P (bv_I s 1471 21 v) Q) : sw C sa (bp_putI 4 21 (C + 1471) v P) s Q := sw_putI (by decide) rfl (by decide) k
theorem mg_22 {K : Int32 → bp_M β} (k : sw C sa (K (bv_i s 1471 22)) s Q) : sw C sa (bp_getI 4 22 (C + 1471) K) s Q := sw_getI (by decide) rfl k
theorem mp_22 {v : Int32} (k : sw C sa P (bv_I s 1471 22 v) Q) : sw C sa (bp_putI 4 22 (C + 1471) v P) s Q := sw_putI (by decide) rfl (by decide) k
theorem mg_23 {K : Int32 → bp_M β} (k : sw C sa (K (bv_i s 1471 23)) s Q) : sw C sa (bp_getI 4 23 (C + 1471) K) s Q := sw_getI (by decide) rfl k
theorem mp_23 {v : Int32} (k : sw C sa P (bv_I s 1471 23 v) Q) : sw C sa (bp_putI 4 23 (C + 1471) v P) s Q := sw_putI (by decide) rfl (by decide) k
theorem mg_24 {K : Int32 → bp_M β} (k : sw C sa (K (bv_i s 1471 24)) s Q) : sw C sa (bp_getI 4 24 (C + 1471) K) s Q := sw_getI (by decide) rfl k
theorem mp_24 {v : Int32} (k : sw C sa P (bv_I s 1471 24 v) Q) : sw C sa (bp_putI 4 24 (C + 1471) v P) s Q := sw_putI (by decide) rfl (by decide) k
theorem mg_25 {K : Int32 → bp_M β} (k : sw C sa (K (bv_i s 1471 25)) s Q) : sw C sa (bp_getI 4 25 (C + 1471) K) s Q := sw_getI (by decide) rfl k
theorem mp_25 {v : Int32} (k : sw C sa P (bv_I s 1471 25 v) Q) : sw C sa (bp_putI 4 25 (C + 1471) v P) s Q := sw_putI (by decide) rfl (by decide) k
theorem mg_39 {K : Int32 → bp_M β} (k : sw C sa (K (bv_i s 1471 39)) s Q) : sw C sa (bp_getI 4 39 (C + 1471) K) s Q := sw_getI (by decide) rfl k
theorem mp_39 {v : Int32} (k : sw C sa P (bv_I s 1471 39 v) Q) : sw C sa (bp_putI 4 39 (C + 1471) v P) s Q := sw_putI (by decide) rfl (by decide) k
theorem mg_47 {K : Int32 → bp_M β} (k : sw C sa (K (bv_i s 1471 47)) s Q) : sw C sa (bp_getI 4 47 (C + 1471) K) s Q := sw_getI (by decide) rfl k
theorem mp_47 {v : Int32} (hv : v = 0 ∨ v = 1) (k : sw C sa P (bv_I s 1471 47 v) Q) : sw C sa (bp_putZ 4 47 (C + 1471) v P) s Q := sw_putZ hv (by decide) rfl (by decide) k
theorem mg_48 {K : Int32 → bp_M β} (k : sw C sa (K (bv_i s 1471 48)) s Q) : sw C sa (bp_getI 4 48 (C + 1471) K) s Q := sw_getI (by decide) rfl k
theorem mp_48 {v : Int32} (k : sw C sa P (bv_I s 1471 48 v) Q) : sw C sa (bp_putI 4 48 (C + 1471) v P) s Q := sw_putI (by decide) rfl (by decide) k
theorem mg_49 {K : Int32 → bp_M β} (k : sw C sa (K (bv_i s 1471 49)) s Q) : sw C sa (bp_getI 4 49 (C + 1471) K) s Q := sw_getI (by decide) rfl k
theorem mp_49 {v : Int32} (k : sw C sa P (bv_I s 1471 49 v) Q) : sw C sa (bp_putI 4 49 (C + 1471) v P) s Q := sw_putI (by decide) rfl (by decide) k
theorem mo_3 {K : Nat → bp_M β} (k : sw C sa (K (C + 1472)) s Q) : sw C sa (bp_getN 4 3 (C + 1471) K) s Q := sw_getN rfl (by decide) rfl k
theorem ma_1472 (j : Nat) {i : Int32} {K : Int32 → bp_M β} (hi : i = nI j) (hj : j < 30) (k : sw C sa (K (bv_i s 1472 j)) s Q) : sw C sa (bp_aldI 20 (C + 1472) i K) s Q := by
  subst hi
  exact sw_aldI (by decide) rfl (bv_in hj (by show 30 < 2 ^ 31; decide)) (by rw [nI_clamp (by omega)]; exact k)
theorem mb_1472 (j : Nat) {i v : Int32} (hi : i = nI j) (hj : j < 30) (k : sw C sa P (bv_I s 1472 j v) Q) : sw C sa (bp_astI (C + 1472) i v P) s Q := by
  subst hi
  exact sw_astI (by decide) rfl (by decide) (bv_in hj (by show 30 < 2 ^ 31; decide)) (by rw [nI_clamp (by omega)]; exact k)
theorem mo_4 {K : Nat → bp_M β} (k : sw C sa (K (C + 1473)) s Q) : sw C sa (bp_getN 4 4 (C + 1471) K) s Q := sw_getN rfl (by decide) rfl k
theorem ma_1473 (j : Nat) {i : Int32} {K : Int32 → bp_M β} (hi : i = nI j) (hj : j < 30) (k : sw C sa (K (bv_i s 1473 j)) s Q) : sw C sa (bp_aldI 20 (C + 1473) i K) s Q := by
  subst hi
  exact sw_aldI (by decide) rfl (bv_in hj (by show 30 < 2 ^ 31; decide)) (by rw [nI_clamp (by omega)]; exact k)
theorem mb_1473 (j : Nat) {i v : Int32} (hi : i = nI j) (hj : j < 30) (k : sw C sa P (bv_I s 1473 j v) Q) : sw C sa (bp_astI (C + 1473) i v P) s Q := by
  subst hi
  exact sw_astI (by decide) rfl (by decide) (bv_in hj (by show 30 < 2 ^ 31; decide)) (by rw [nI_clamp (by omega)]; exact k)
theorem mo_5 {K : Nat → bp_M β} (k : sw C sa (K (C + 1474)) s Q) : sw C sa (bp_getN 4 5 (C + 1471) K) s Q := sw_getN rfl (by decide) rfl k
theorem ma_1474 (j : Nat) {i : Int32} {K : Int32 → bp_M β} (hi : i = nI j) (hj : j < 30) (k : sw C sa (K (bv_i s 1474 j)) s Q) : sw C sa (bp_aldI 20 (C + 1474) i K) s Q := by
  subst hi
  exact sw_aldI (by decide) rfl (bv_in hj (by show 30 < 2 ^ 31; decide)) (by rw [nI_clamp (by omega)]; exact k)
theorem mb_1474 (j : Nat) {i v : Int32} (hi : i = nI j) (hj : j < 30) (k : sw C sa P (bv_I s 1474 j v) Q) : sw C sa (bp_astI (C + 1474) i v P) s Q := by
  subst hi
  exact sw_astI (by decide) rfl (by decide) (bv_in hj (by show 30 < 2 ^ 31; decide)) (by rw [nI_clamp (by omega)]; exact k)
theorem mo_6 {K : Nat → bp_M β} (k : sw C sa (K (C + 1475)) s Q) : sw C sa (bp_getN 4 6 (C + 1471) K) s Q := sw_getN rfl (by decide) rfl k
theorem ma_1475 (j : Nat) {i : Int32} {K : Int32 → bp_M β} (hi : i = nI j) (hj : j < 300) (k : sw C sa (K (bv_i s 1475 j)) s Q) : sw C sa (bp_aldI 20 (C + 1475) i K) s Q := by
  subst hi
  exact sw_aldI (by decide) rfl (bv_in hj (by show 300 < 2 ^ 31; decide)) (by rw [nI_clamp (by omega)]; exact k)
theorem mb_1475 (j : Nat) {i v : Int32} (hi : i = nI j) (hj : j < 300) (k : sw C sa P (bv_I s 1475 j v) Q) : sw C sa (bp_astI (C + 1475) i v P) s Q := by
  subst hi
  exact sw_astI (by decide) rfl (by decide) (bv_in hj (by show 300 < 2 ^ 31; decide)) (by rw [nI_clamp (by omega)]; exact k)
theorem mo_7 {K : Nat → bp_M β} (k : sw C sa (K (C + 1476)) s Q) : sw C sa (bp_getN 4 7 (C + 1471) K) s Q := sw_getN rfl (by decide) rfl k
theorem ma_1476 (j : Nat) {i : Int32} {K : Int32 → bp_M β} (hi : i = nI j) (hj : j < 30) (k : sw C sa (K (bv_i s 1476 j)) s Q) : sw C sa (bp_aldI 20 (C + 1476) i K) s Q := by
  subst hi
  exact sw_aldI (by decide) rfl (bv_in hj (by show 30 < 2 ^ 31; decide)) (by rw [nI_clamp (by omega)]; exact k)
theorem mb_1476 (j : Nat) {i v : Int32} (hi : i = nI j) (hj : j < 30) (k : sw C sa P (bv_I s 1476 j v) Q) : sw C sa (bp_astI (C + 1476) i v P) s Q := by
  subst hi
  exact sw_astI (by decide) rfl (by decide) (bv_in hj (by show 30 < 2 ^ 31; decide)) (by rw [nI_clamp (by omega)]; exact k)
theorem mo_8 {K : Nat → bp_M β} (k : sw C sa (K (C + 1477)) s Q) : sw C sa (bp_getN 4 8 (C + 1471) K) s Q := sw_getN rfl (by decide) rfl k
theorem ma_1477 (j : Nat) {i : Int32} {K : Int32 → bp_M β} (hi : i = nI j) (hj : j < 30) (k : sw C sa (K (bv_i s 1477 j)) s Q) : sw C sa (bp_aldI 20 (C + 1477) i K) s Q := by
  subst hi
  exact sw_aldI (by decide) rfl (bv_in hj (by show 30 < 2 ^ 31; decide)) (by rw [nI_clamp (by omega)]; exact k)
theorem mb_1477 (j : Nat) {i v : Int32} (hi : i = nI j) (hj : j < 30) (k : sw C sa P (bv_I s 1477 j v) Q) : sw C sa (bp_astI (C + 1477) i v P) s Q := by
  subst hi
  exact sw_astI (by decide) rfl (by decide) (bv_in hj (by show 30 < 2 ^ 31; decide)) (by rw [nI_clamp (by omega)]; exact k)
theorem mo_9 {K : Nat → bp_M β} (k : sw C sa (K (C + 1478)) s Q) : sw C sa (bp_getN 4 9 (C + 1471) K) s Q := sw_getN rfl (by decide) rfl k
theorem ma_1478 (j : Nat) {i : Int32} {K : Int32 → bp_M β} (hi : i = nI j) (hj : j < 600) (k : sw C sa (K (bv_i s 1478 j)) s Q) : sw C sa (bp_aldI 20 (C + 1478) i K) s Q := by
  subst hi
  exact sw_aldI (by decide) rfl (bv_in hj (by show 600 < 2 ^ 31; decide)) (by rw [nI_clamp (by omega)]; exact k)
theorem mb_1478 (j : Nat) {i v : Int32} (hi : i = nI j) (hj : j < 600) (k : sw C sa P (bv_I s 1478 j v) Q) : sw C sa (bp_astI (C + 1478) i v P) s Q := by
  subst hi
  exact sw_astI (by decide) rfl (by decide) (bv_in hj (by show 600 < 2 ^ 31; decide)) (by rw [nI_clamp (by omega)]; exact k)
theorem mo_10 {K : Nat → bp_M β} (k : sw C sa (K (C + 1479)) s Q) : sw C sa (bp_getN 4 10 (C + 1471) K) s Q := sw_getN rfl (by decide) rfl k
theorem ma_1479 (j : Nat) {i : Int32} {K : Int32 → bp_M β} (hi : i = nI j) (hj : j < 180) (k : sw C sa (K (bv_i s 1479 j)) s Q) : sw C sa (bp_aldI 20 (C + 1479) i K) s Q := by
  subst hi
  exact sw_aldI (by decide) rfl (bv_in hj (by show 180 < 2 ^ 31; decide)) (by rw [nI_clamp (by omega)]; exact k)
theorem mb_1479 (j : Nat) {i v : Int32} (hi : i = nI j) (hj : j < 180) (k : sw C sa P (bv_I s 1479 j v) Q) : sw C sa (bp_astI (C + 1479) i v P) s Q := by
  subst hi
  exact sw_astI (by decide) rfl (by decide) (bv_in hj (by show 180 < 2 ^ 31; decide)) (by rw [nI_clamp (by omega)]; exact k)
theorem mo_11 {K : Nat → bp_M β} (k : sw C sa (K (C + 1480)) s Q) : sw C sa (bp_getN 4 11 (C + 1471) K) s Q := sw_getN rfl (by decide) rfl k
theorem ma_1480 (j : Nat) {i : Int32} {K : Int32 → bp_M β} (hi : i = nI j) (hj : j < 480) (k : sw C sa (K (bv_i s 1480 j)) s Q) : sw C sa (bp_aldI 20 (C + 1480) i K) s Q := by
  subst hi
  exact sw_aldI (by decide) rfl (bv_in hj (by show 480 < 2 ^ 31; decide)) (by rw [nI_clamp (by omega)]; exact k)
theorem mb_1480 (j : Nat) {i v : Int32} (hi : i = nI j) (hj : j < 480) (k : sw C sa P (bv_I s 1480 j v) Q) : sw C sa (bp_astI (C + 1480) i v P) s Q := by
  subst hi
  exact sw_astI (by decide) rfl (by decide) (bv_in hj (by show 480 < 2 ^ 31; decide)) (by rw [nI_clamp (by omega)]; exact k)
theorem mo_12 {K : Nat → bp_M β} (k : sw C sa (K (C + 1481)) s Q) : sw C sa (bp_getN 4 12 (C + 1471) K) s Q := sw_getN rfl (by decide) rfl k
theorem ma_1481 (j : Nat) {i : Int32} {K : Int32 → bp_M β} (hi : i = nI j) (hj : j < 5000) (k : sw C sa (K (bv_i s 1481 j)) s Q) : sw C sa (bp_aldI 20 (C + 1481) i K) s Q := by
  subst hi
  exact sw_aldI (by decide) rfl (bv_in hj (by show 5000 < 2 ^ 31; decide)) (by rw [nI_clamp (by omega)]; exact k)
theorem mb_1481 (j : Nat) {i v : Int32} (hi : i = nI j) (hj : j < 5000) (k : sw C sa P (bv_I s 1481 j v) Q) : sw C sa (bp_astI (C + 1481) i v P) s Q := by
  subst hi
  exact sw_astI (by decide) rfl (by decide) (bv_in hj (by show 5000 < 2 ^ 31; decide)) (by rw [nI_clamp (by omega)]; exact k)
theorem mo_14 {K : Nat → bp_M β} (k : sw C sa (K (C + 1482)) s Q) : sw C sa (bp_getN 4 14 (C + 1471) K) s Q := sw_getN rfl (by decide) rfl k
theorem ma_1482 (j : Nat) {i : Int32} {K : Int32 → bp_M β} (hi : i = nI j) (hj : j < 3000) (k : sw C sa (K (bv_i s 1482 j)) s Q) : sw C sa (bp_aldI 20 (C + 1482) i K) s Q := by
  subst hi
  exact sw_aldI (by decide) rfl (bv_in hj (by show 3000 < 2 ^ 31; decide)) (by rw [nI_clamp (by omega)]; exact k)
theorem mb_1482 (j : Nat) {i v : Int32} (hi : i = nI j) (hj : j < 3000) (k : sw C sa P (bv_I s 1482 j v) Q) : sw C sa (bp_astI (C + 1482) i v P) s Q := by
  subst hi
  exact sw_astI (by decide) rfl (by decide) (bv_in hj (by show 3000 < 2 ^ 31; decide)) (by rw [nI_clamp (by omega)]; exact k)
theorem mo_16 {K : Nat → bp_M β} (k : sw C sa (K (C + 1483)) s Q) : sw C sa (bp_getN 4 16 (C + 1471) K) s Q := sw_getN rfl (by decide) rfl k
theorem ma_1483 (j : Nat) {i : Int32} {K : Int32 → bp_M β} (hi : i = nI j) (hj : j < 3000) (k : sw C sa (K (bv_i s 1483 j)) s Q) : sw C sa (bp_aldI 20 (C + 1483) i K) s Q := by
  subst hi
  exact sw_aldI (by decide) rfl (bv_in hj (by show 3000 < 2 ^ 31; decide)) (by rw [nI_clamp (by omega)]; exact k)
theorem mb_1483 (j : Nat) {i v : Int32} (hi : i = nI j) (hj : j < 3000) (k : sw C sa P (bv_I s 1483 j v) Q) : sw C sa (bp_astI (C + 1483) i v P) s Q := by
  subst hi
  exact sw_astI (by decide) rfl (by decide) (bv_in hj (by show 3000 < 2 ^ 31; decide)) (by rw [nI_clamp (by omega)]; exact k)
theorem mo_18 {K : Nat → bp_M β} (k : sw C sa (K (C + 1484)) s Q) : sw C sa (bp_getN 4 18 (C + 1471) K) s Q := sw_getN rfl (by decide) rfl k
theorem ma_1484 (j : Nat) {i : Int32} {K : Int32 → bp_M β} (hi : i = nI j) (hj : j < 3000) (k : sw C sa (K (bv_i s 1484 j)) s Q) : sw C sa (bp_aldI 20 (C + 1484) i K) s Q := by
  subst hi
  exact sw_aldI (by decide) rfl (bv_in hj (by show 3000 < 2 ^ 31; decide)) (by rw [nI_clamp (by omega)]; exact k)
theorem mb_1484 (j : Nat) {i v : Int32} (hi : i = nI j) (hj : j < 3000) (k : sw C sa P (bv_I s 1484 j v) Q) : sw C sa (bp_astI (C + 1484) i v P) s Q := by
  subst hi
  exact sw_astI (by decide) rfl (by decide) (bv_in hj (by show 3000 < 2 ^ 31; decide)) (by rw [nI_clamp (by omega)]; exact k)
theorem mo_26 {K : Nat → bp_M β} (k : sw C sa (K (C + 1485)) s Q) : sw C sa (bp_getN 4 26 (C + 1471) K) s Q := sw_getN rfl (by decide) rfl k
theorem ma_1485 (j : Nat) {i : Int32} {K : Int32 → bp_M β} (hi : i = nI j) (hj : j < 256) (k : sw C sa (K (bv_i s 1485 j)) s Q) : sw C sa (bp_aldI 20 (C + 1485) i K) s Q := by
  subst hi
  exact sw_aldI (by decide) rfl (bv_in hj (by show 256 < 2 ^ 31; decide)) (by rw [nI_clamp (by omega)]; exact k)
theorem mb_1485 (j : Nat) {i v : Int32} (hi : i = nI j) (hj : j < 256) (k : sw C sa P (bv_I s 1485 j v) Q) : sw C sa (bp_astI (C + 1485) i v P) s Q := by
  subst hi
  exact sw_astI (by decide) rfl (by decide) (bv_in hj (by show 256 < 2 ^ 31; decide)) (by rw [nI_clamp (by omega)]; exact k)
theorem mo_27 {K : Nat → bp_M β} (k : sw C sa (K (C + 1486)) s Q) : sw C sa (bp_getN 4 27 (C + 1471) K) s Q := sw_getN rfl (by decide) rfl k
theorem ma_1486 (j : Nat) {i : Int32} {K : Int32 → bp_M β} (hi : i = nI j) (hj : j < 256) (k : sw C sa (K (bv_i s 1486 j)) s Q) : sw C sa (bp_aldI 20 (C + 1486) i K) s Q := by
  subst hi
  exact sw_aldI (by decide) rfl (bv_in hj (by show 256 < 2 ^ 31; decide)) (by rw [nI_clamp (by omega)]; exact k)
theorem mb_1486 (j : Nat) {i v : Int32} (hi : i = nI j) (hj : j < 256) (k : sw C sa P (bv_I s 1486 j v) Q) : sw C sa (bp_astI (C + 1486) i v P) s Q := by
  subst hi
  exact sw_astI (by decide) rfl (by decide) (bv_in hj (by show 256 < 2 ^ 31; decide)) (by rw [nI_clamp (by omega)]; exact k)
theorem mo_28 {K : Nat → bp_M β} (k : sw C sa (K (C + 1487)) s Q) : sw C sa (bp_getN 4 28 (C + 1471) K) s Q := sw_getN rfl (by decide) rfl k
theorem ma_1487 (j : Nat) {i : Int32} {K : Int32 → bp_M β} (hi : i = nI j) (hj : j < 256) (k : sw C sa (K (bv_i s 1487 j)) s Q) : sw C sa (bp_aldI 20 (C + 1487) i K) s Q := by
  subst hi
  exact sw_aldI (by decide) rfl (bv_in hj (by show 256 < 2 ^ 31; decide)) (by rw [nI_clamp (by omega)]; exact k)
theorem mb_1487 (j : Nat) {i v : Int32} (hi : i = nI j) (hj : j < 256) (k : sw C sa P (bv_I s 1487 j v) Q) : sw C sa (bp_astI (C + 1487) i v P) s Q := by
  subst hi
  exact sw_astI (by decide) rfl (by decide) (bv_in hj (by show 256 < 2 ^ 31; decide)) (by rw [nI_clamp (by omega)]; exact k)
theorem mo_29 {K : Nat → bp_M β} (k : sw C sa (K (C + 1488)) s Q) : sw C sa (bp_getN 4 29 (C + 1471) K) s Q := sw_getN rfl (by decide) rfl k
theorem ma_1488 (j : Nat) {i : Int32} {K : Int32 → bp_M β} (hi : i = nI j) (hj : j < 256) (k : sw C sa (K (bv_i s 1488 j)) s Q) : sw C sa (bp_aldI 20 (C + 1488) i K) s Q := by
  subst hi
  exact sw_aldI (by decide) rfl (bv_in hj (by show 256 < 2 ^ 31; decide)) (by rw [nI_clamp (by omega)]; exact k)
theorem mb_1488 (j : Nat) {i v : Int32} (hi : i = nI j) (hj : j < 256) (k : sw C sa P (bv_I s 1488 j v) Q) : sw C sa (bp_astI (C + 1488) i v P) s Q := by
  subst hi
  exact sw_astI (by decide) rfl (by decide) (bv_in hj (by show 256 < 2 ^ 31; decide)) (by rw [nI_clamp (by omega)]; exact k)
theorem mo_30 {K : Nat → bp_M β} (k : sw C sa (K (C + 1489)) s Q) : sw C sa (bp_getN 4 30 (C + 1471) K) s Q := sw_getN rfl (by decide) rfl k
theorem ma_1489 (j : Nat) {i : Int32} {K : Int32 → bp_M β} (hi : i = nI j) (hj : j < 256) (k : sw C sa (K (bv_i s 1489 j)) s Q) : sw C sa (bp_aldI 20 (C + 1489) i K) s Q := by
  subst hi
  exact sw_aldI (by decide) rfl (bv_in hj (by show 256 < 2 ^ 31; decide)) (by rw [nI_clamp (by omega)]; exact k)
theorem mb_1489 (j : Nat) {i v : Int32} (hi : i = nI j) (hj : j < 256) (k : sw C sa P (bv_I s 1489 j v) Q) : sw C sa (bp_astI (C + 1489) i v P) s Q := by
  subst hi
  exact sw_astI (by decide) rfl (by decide) (bv_in hj (by show 256 < 2 ^ 31; decide)) (by rw [nI_clamp (by omega)]; exact k)
theorem mo_31 {K : Nat → bp_M β} (k : sw C sa (K (C + 1490)) s Q) : sw C sa (bp_getN 4 31 (C + 1471) K) s Q := sw_getN rfl (by decide) rfl k
theorem ma_1490 (j : Nat) {i : Int32} {K : Int32 → bp_M β} (hi : i = nI j) (hj : j < 2560) (k : sw C sa (K (bv_i s 1490 j)) s Q) : sw C sa (bp_aldI 20 (C + 1490) i K) s Q := by
  subst hi
  exact sw_aldI (by decide) rfl (bv_in hj (by show 2560 < 2 ^ 31; decide)) (by rw [nI_clamp (by omega)]; exact k)
theorem mb_1490 (j : Nat) {i v : Int32} (hi : i = nI j) (hj : j < 2560) (k : sw C sa P (bv_I s 1490 j v) Q) : sw C sa (bp_astI (C + 1490) i v P) s Q := by
  subst hi
  exact sw_astI (by decide) rfl (by decide) (bv_in hj (by show 2560 < 2 ^ 31; decide)) (by rw [nI_clamp (by omega)]; exact k)
theorem mo_32 {K : Nat → bp_M β} (k : sw C sa (K (C + 1491)) s Q) : sw C sa (bp_getN 4 32 (C + 1471) K) s Q := sw_getN rfl (by decide) rfl k
theorem ma_1491 (j : Nat) {i : Int32} {K : Int32 → bp_M β} (hi : i = nI j) (hj : j < 256) (k : sw C sa (K (bv_i s 1491 j)) s Q) : sw C sa (bp_aldI 20 (C + 1491) i K) s Q := by
  subst hi
  exact sw_aldI (by decide) rfl (bv_in hj (by show 256 < 2 ^ 31; decide)) (by rw [nI_clamp (by omega)]; exact k)
theorem mb_1491 (j : Nat) {i v : Int32} (hi : i = nI j) (hj : j < 256) (k : sw C sa P (bv_I s 1491 j v) Q) : sw C sa (bp_astI (C + 1491) i v P) s Q := by
  subst hi
  exact sw_astI (by decide) rfl (by decide) (bv_in hj (by show 256 < 2 ^ 31; decide)) (by rw [nI_clamp (by omega)]; exact k)
theorem mo_33 {K : Nat → bp_M β} (k : sw C sa (K (C + 1492)) s Q) : sw C sa (bp_getN 4 33 (C + 1471) K) s Q := sw_getN rfl (by decide) rfl k
theorem ma_1492 (j : Nat) {i : Int32} {K : Int64 → bp_M β} (hi : i = nI j) (hj : j < 256) (k : sw C sa (K (bv_l s 1492 j)) s Q) : sw C sa (bp_aldL (C + 1492) i K) s Q := by
  subst hi
  exact sw_aldL (by decide) rfl (bv_in hj (by show 256 < 2 ^ 31; decide)) (by rw [nI_clamp (by omega)]; exact k)
theorem mb_1492 (j : Nat) {i : Int32} {v : Int64} (hi : i = nI j) (hj : j < 256) (k : sw C sa P (bv_L s 1492 j v) Q) : sw C sa (bp_astL (C + 1492) i v P) s Q := by
  subst hi
  exact sw_astL (by decide) rfl (bv_in hj (by show 256 < 2 ^ 31; decide)) (by rw [nI_clamp (by omega)]; exact k)
theorem mo_34 {K : Nat → bp_M β} (k : sw C sa (K (C + 1493)) s Q) : sw C sa (bp_getN 4 34 (C + 1471) K) s Q := sw_getN rfl (by decide) rfl k
theorem ma_1493 (j : Nat) {i : Int32} {K : Int32 → bp_M β} (hi : i = nI j) (hj : j < 256) (k : sw C sa (K (bv_i s 1493 j)) s Q) : sw C sa (bp_aldI 20 (C + 1493) i K) s Q := by
  subst hi
  exact sw_aldI (by decide) rfl (bv_in hj (by show 256 < 2 ^ 31; decide)) (by rw [nI_clamp (by omega)]; exact k)
theorem mb_1493 (j : Nat) {i v : Int32} (hi : i = nI j) (hj : j < 256) (k : sw C sa P (bv_I s 1493 j v) Q) : sw C sa (bp_astI (C + 1493) i v P) s Q := by
  subst hi
  exact sw_astI (by decide) rfl (by decide) (bv_in hj (by show 256 < 2 ^ 31; decide)) (by rw [nI_clamp (by omega)]; exact k)
theorem mo_35 {K : Nat → bp_M β} (k : sw C sa (K (C + 1494)) s Q) : sw C sa (bp_getN 4 35 (C + 1471) K) s Q := sw_getN rfl (by decide) rfl k
theorem ma_1494 (j : Nat) {i : Int32} {K : Int32 → bp_M β} (hi : i = nI j) (hj : j < 256) (k : sw C sa (K (bv_i s 1494 j)) s Q) : sw C sa (bp_aldI 20 (C + 1494) i K) s Q := by
  subst hi
  exact sw_aldI (by decide) rfl (bv_in hj (by show 256 < 2 ^ 31; decide)) (by rw [nI_clamp (by omega)]; exact k)
theorem mb_1494 (j : Nat) {i v : Int32} (hi : i = nI j) (hj : j < 256) (k : sw C sa P (bv_I s 1494 j v) Q) : sw C sa (bp_astI (C + 1494) i v P) s Q := by
  subst hi
  exact sw_astI (by decide) rfl (by decide) (bv_in hj (by show 256 < 2 ^ 31; decide)) (by rw [nI_clamp (by omega)]; exact k)
theorem mo_36 {K : Nat → bp_M β} (k : sw C sa (K (C + 1495)) s Q) : sw C sa (bp_getN 4 36 (C + 1471) K) s Q := sw_getN rfl (by decide) rfl k
theorem ma_1495 (j : Nat) {i : Int32} {K : Int32 → bp_M β} (hi : i = nI j) (hj : j < 256) (k : sw C sa (K (bv_i s 1495 j)) s Q) : sw C sa (bp_aldI 20 (C + 1495) i K) s Q := by
  subst hi
  exact sw_aldI (by decide) rfl (bv_in hj (by show 256 < 2 ^ 31; decide)) (by rw [nI_clamp (by omega)]; exact k)
theorem mb_1495 (j : Nat) {i v : Int32} (hi : i = nI j) (hj : j < 256) (k : sw C sa P (bv_I s 1495 j v) Q) : sw C sa (bp_astI (C + 1495) i v P) s Q := by
  subst hi
  exact sw_astI (by decide) rfl (by decide) (bv_in hj (by show 256 < 2 ^ 31; decide)) (by rw [nI_clamp (by omega)]; exact k)
theorem mo_37 {K : Nat → bp_M β} (k : sw C sa (K (C + 1496)) s Q) : sw C sa (bp_getN 4 37 (C + 1471) K) s Q := sw_getN rfl (by decide) rfl k
theorem ma_1496 (j : Nat) {i : Int32} {K : Int32 → bp_M β} (hi : i = nI j) (hj : j < 256) (k : sw C sa (K (bv_i s 1496 j)) s Q) : sw C sa (bp_aldI 20 (C + 1496) i K) s Q := by
  subst hi
  exact sw_aldI (by decide) rfl (bv_in hj (by show 256 < 2 ^ 31; decide)) (by rw [nI_clamp (by omega)]; exact k)
theorem mb_1496 (j : Nat) {i v : Int32} (hi : i = nI j) (hj : j < 256) (k : sw C sa P (bv_I s 1496 j v) Q) : sw C sa (bp_astI (C + 1496) i v P) s Q := by
  subst hi
  exact sw_astI (by decide) rfl (by decide) (bv_in hj (by show 256 < 2 ^ 31; decide)) (by rw [nI_clamp (by omega)]; exact k)
theorem mo_38 {K : Nat → bp_M β} (k : sw C sa (K (C + 1497)) s Q) : sw C sa (bp_getN 4 38 (C + 1471) K) s Q := sw_getN rfl (by decide) rfl k
theorem ma_1497 (j : Nat) {i : Int32} {K : Int32 → bp_M β} (hi : i = nI j) (hj : j < 4096) (k : sw C sa (K (bv_i s 1497 j)) s Q) : sw C sa (bp_aldI 20 (C + 1497) i K) s Q := by
  subst hi
  exact sw_aldI (by decide) rfl (bv_in hj (by show 4096 < 2 ^ 31; decide)) (by rw [nI_clamp (by omega)]; exact k)
theorem mb_1497 (j : Nat) {i v : Int32} (hi : i = nI j) (hj : j < 4096) (k : sw C sa P (bv_I s 1497 j v) Q) : sw C sa (bp_astI (C + 1497) i v P) s Q := by
  subst hi
  exact sw_astI (by decide) rfl (by decide) (bv_in hj (by show 4096 < 2 ^ 31; decide)) (by rw [nI_clamp (by omega)]; exact k)
theorem mo_40 {K : Nat → bp_M β} (k : sw C sa (K (C + 1498)) s Q) : sw C sa (bp_getN 4 40 (C + 1471) K) s Q := sw_getN rfl (by decide) rfl k
theorem ma_1498 (j : Nat) {i : Int32} {K : Int32 → bp_M β} (hi : i = nI j) (hj : j < 10) (k : sw C sa (K (bv_i s 1498 j)) s Q) : sw C sa (bp_aldI 22 (C + 1498) i K) s Q := by
  subst hi
  exact sw_aldI (by decide) rfl (bv_in hj (by show 10 < 2 ^ 31; decide)) (by rw [nI_clamp (by omega)]; exact k)
theorem mb_1498 (j : Nat) {i v : Int32} (hv : v = 0 ∨ v = 1) (hi : i = nI j) (hj : j < 10) (k : sw C sa P (bv_I s 1498 j v) Q) : sw C sa (bp_astZ (C + 1498) i v P) s Q := by
  subst hi
  exact sw_astZ hv (by decide) rfl (by decide) (bv_in hj (by show 10 < 2 ^ 31; decide)) (by rw [nI_clamp (by omega)]; exact k)
theorem mo_41 {K : Nat → bp_M β} (k : sw C sa (K (C + 1499)) s Q) : sw C sa (bp_getN 4 41 (C + 1471) K) s Q := sw_getN rfl (by decide) rfl k
theorem ma_1499 (j : Nat) {i : Int32} {K : Int32 → bp_M β} (hi : i = nI j) (hj : j < 10) (k : sw C sa (K (bv_i s 1499 j)) s Q) : sw C sa (bp_aldI 20 (C + 1499) i K) s Q := by
  subst hi
  exact sw_aldI (by decide) rfl (bv_in hj (by show 10 < 2 ^ 31; decide)) (by rw [nI_clamp (by omega)]; exact k)
theorem mb_1499 (j : Nat) {i v : Int32} (hi : i = nI j) (hj : j < 10) (k : sw C sa P (bv_I s 1499 j v) Q) : sw C sa (bp_astI (C + 1499) i v P) s Q := by
  subst hi
  exact sw_astI (by decide) rfl (by decide) (bv_in hj (by show 10 < 2 ^ 31; decide)) (by rw [nI_clamp (by omega)]; exact k)
theorem mo_42 {K : Nat → bp_M β} (k : sw C sa (K (C + 1500)) s Q) : sw C sa (bp_getN 4 42 (C + 1471) K) s Q := sw_getN rfl (by decide) rfl k
theorem ma_1500 (j : Nat) {i : Int32} {K : Int32 → bp_M β} (hi : i = nI j) (hj : j < 10) (k : sw C sa (K (bv_i s 1500 j)) s Q) : sw C sa (bp_aldI 20 (C + 1500) i K) s Q := by
  subst hi
  exact sw_aldI (by decide) rfl (bv_in hj (by show 10 < 2 ^ 31; decide)) (by rw [nI_clamp (by omega)]; exact k)
theorem mb_1500 (j : Nat) {i v : Int32} (hi : i = nI j) (hj : j < 10) (k : sw C sa P (bv_I s 1500 j v) Q) : sw C sa (bp_astI (C + 1500) i v P) s Q := by
  subst hi
  exact sw_astI (by decide) rfl (by decide) (bv_in hj (by show 10 < 2 ^ 31; decide)) (by rw [nI_clamp (by omega)]; exact k)
theorem mo_43 {K : Nat → bp_M β} (k : sw C sa (K (C + 1501)) s Q) : sw C sa (bp_getN 4 43 (C + 1471) K) s Q := sw_getN rfl (by decide) rfl k
theorem ma_1501 (j : Nat) {i : Int32} {K : Int32 → bp_M β} (hi : i = nI j) (hj : j < 10) (k : sw C sa (K (bv_i s 1501 j)) s Q) : sw C sa (bp_aldI 20 (C + 1501) i K) s Q := by
  subst hi
  exact sw_aldI (by decide) rfl (bv_in hj (by show 10 < 2 ^ 31; decide)) (by rw [nI_clamp (by omega)]; exact k)
theorem mb_1501 (j : Nat) {i v : Int32} (hi : i = nI j) (hj : j < 10) (k : sw C sa P (bv_I s 1501 j v) Q) : sw C sa (bp_astI (C + 1501) i v P) s Q := by
  subst hi
  exact sw_astI (by decide) rfl (by decide) (bv_in hj (by show 10 < 2 ^ 31; decide)) (by rw [nI_clamp (by omega)]; exact k)
theorem mo_44 {K : Nat → bp_M β} (k : sw C sa (K (C + 1502)) s Q) : sw C sa (bp_getN 4 44 (C + 1471) K) s Q := sw_getN rfl (by decide) rfl k
theorem ma_1502 (j : Nat) {i : Int32} {K : Int32 → bp_M β} (hi : i = nI j) (hj : j < 10) (k : sw C sa (K (bv_i s 1502 j)) s Q) : sw C sa (bp_aldI 20 (C + 1502) i K) s Q := by
  subst hi
  exact sw_aldI (by decide) rfl (bv_in hj (by show 10 < 2 ^ 31; decide)) (by rw [nI_clamp (by omega)]; exact k)
theorem mb_1502 (j : Nat) {i v : Int32} (hi : i = nI j) (hj : j < 10) (k : sw C sa P (bv_I s 1502 j v) Q) : sw C sa (bp_astI (C + 1502) i v P) s Q := by
  subst hi
  exact sw_astI (by decide) rfl (by decide) (bv_in hj (by show 10 < 2 ^ 31; decide)) (by rw [nI_clamp (by omega)]; exact k)
theorem mo_45 {K : Nat → bp_M β} (k : sw C sa (K (C + 1503)) s Q) : sw C sa (bp_getN 4 45 (C + 1471) K) s Q := sw_getN rfl (by decide) rfl k
theorem ma_1503 (j : Nat) {i : Int32} {K : Int32 → bp_M β} (hi : i = nI j) (hj : j < 320) (k : sw C sa (K (bv_i s 1503 j)) s Q) : sw C sa (bp_aldI 20 (C + 1503) i K) s Q := by
  subst hi
  exact sw_aldI (by decide) rfl (bv_in hj (by show 320 < 2 ^ 31; decide)) (by rw [nI_clamp (by omega)]; exact k)
theorem mb_1503 (j : Nat) {i v : Int32} (hi : i = nI j) (hj : j < 320) (k : sw C sa P (bv_I s 1503 j v) Q) : sw C sa (bp_astI (C + 1503) i v P) s Q := by
  subst hi
  exact sw_astI (by decide) rfl (by decide) (bv_in hj (by show 320 < 2 ^ 31; decide)) (by rw [nI_clamp (by omega)]; exact k)
theorem mo_46 {K : Nat → bp_M β} (k : sw C sa (K (C + 1504)) s Q) : sw C sa (bp_getN 4 46 (C + 1471) K) s Q := sw_getN rfl (by decide) rfl k
theorem ma_1504 (j : Nat) {i : Int32} {K : Int32 → bp_M β} (hi : i = nI j) (hj : j < 10240) (k : sw C sa (K (bv_i s 1504 j)) s Q) : sw C sa (bp_aldI 22 (C + 1504) i K) s Q := by
  subst hi
  exact sw_aldI (by decide) rfl (bv_in hj (by show 10240 < 2 ^ 31; decide)) (by rw [nI_clamp (by omega)]; exact k)
theorem mb_1504 (j : Nat) {i v : Int32} (hv : v = 0 ∨ v = 1) (hi : i = nI j) (hj : j < 10240) (k : sw C sa P (bv_I s 1504 j v) Q) : sw C sa (bp_astZ (C + 1504) i v P) s Q := by
  subst hi
  exact sw_astZ hv (by decide) rfl (by decide) (bv_in hj (by show 10240 < 2 ^ 31; decide)) (by rw [nI_clamp (by omega)]; exact k)
end MR
