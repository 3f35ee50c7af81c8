/-! Rules by places for runs whose outcome is known (printed by layu.py) -/
set_option maxRecDepth 100000
section UR
variable {α β : Type} {C : Nat} {sa : Nat → Nat} {P P1 P2 : bp_M β} {t : bT} {Q : (bF ⊕ β) → bT → Prop}
theorem ug_o {K : Int32 → bp_M β} (kx : tE C sa (K (nI (ti t (0, 0, 0)))) t Q) : tE C sa (bp_getI 0 0 (C + 0) K) t Q := tE_up (fun _ _ kx => g_o kx) kx
theorem up_o {v : Int32} (n : Nat) (hv : v = nI (n)) (kx : tE C sa P (si t (0, 0, 0) n) Q) : tE C sa (bp_putI 0 0 (C + 0) v P) t Q := tE_up (fun _ _ kx => p_o n hv kx) kx
theorem ug_wn {K : Int32 → bp_M β} (kx : tE C sa (K (nI (ti t (1, 0, 0)))) t Q) : tE C sa (bp_getI 0 5 (C + 0) K) t Q := tE_up (fun _ _ kx => g_wn kx) kx
theorem up_wn {v : Int32} (n : Nat) (hv : v = nI (n)) (kx : tE C sa P (si t (1, 0, 0) n) Q) : tE C sa (bp_putI 0 5 (C + 0) v P) t Q := tE_up (fun _ _ kx => p_wn n hv kx) kx
theorem ug_cn {K : Int32 → bp_M β} (kx : tE C sa (K (nI (ti t (2, 0, 0)))) t Q) : tE C sa (bp_getI 0 7 (C + 0) K) t Q := tE_up (fun _ _ kx => g_cn kx) kx
theorem up_cn {v : Int32} (n : Nat) (hv : v = nI (n)) (kx : tE C sa P (si t (2, 0, 0) n) Q) : tE C sa (bp_putI 0 7 (C + 0) v P) t Q := tE_up (fun _ _ kx => p_cn n hv kx) kx
theorem ug_gn {K : Int32 → bp_M β} (kx : tE C sa (K (nI (ti t (3, 0, 0)))) t Q) : tE C sa (bp_getI 0 9 (C + 0) K) t Q := tE_up (fun _ _ kx => g_gn kx) kx
theorem up_gn {v : Int32} (n : Nat) (hv : v = nI (n)) (kx : tE C sa P (si t (3, 0, 0) n) Q) : tE C sa (bp_putI 0 9 (C + 0) v P) t Q := tE_up (fun _ _ kx => p_gn n hv kx) kx
theorem ug_ir {K : Int32 → bp_M β} (kx : tE C sa (K (nI (ti t (4, 0, 0)))) t Q) : tE C sa (bp_getI 0 13 (C + 0) K) t Q := tE_up (fun _ _ kx => g_ir kx) kx
theorem up_ir {v : Int32} (n : Nat) (hz : v = 0 ∨ v = 1) (hv : v = nI (n)) (kx : tE C sa P (si t (4, 0, 0) n) Q) : tE C sa (bp_putZ 0 13 (C + 0) v P) t Q := tE_up (fun _ _ kx => p_ir n hz hv kx) kx
theorem ug_fa {K : Int32 → bp_M β} (kx : tE C sa (K (nI (ti t (5, 0, 0)))) t Q) : tE C sa (bp_getI 0 14 (C + 0) K) t Q := tE_up (fun _ _ kx => g_fa kx) kx
theorem up_fa {v : Int32} (n : Nat) (hv : v = nI (n)) (kx : tE C sa P (si t (5, 0, 0) n) Q) : tE C sa (bp_putI 0 14 (C + 0) v P) t Q := tE_up (fun _ _ kx => p_fa n hv kx) kx
theorem ug_cs {K : Int32 → bp_M β} (kx : tE C sa (K (nI (ti t (6, 0, 0)))) t Q) : tE C sa (bp_getI 0 15 (C + 0) K) t Q := tE_up (fun _ _ kx => g_cs kx) kx
theorem up_cs {v : Int32} (n : Nat) (hv : v = nI (n)) (kx : tE C sa P (si t (6, 0, 0) n) Q) : tE C sa (bp_putI 0 15 (C + 0) v P) t Q := tE_up (fun _ _ kx => p_cs n hv kx) kx
theorem ug_n {K : Int32 → bp_M β} (kx : tE C sa (K (nI (ti t (7, 0, 0)))) t Q) : tE C sa (bp_getI 6 2 (C + 1) K) t Q := tE_up (fun _ _ kx => g_n kx) kx
theorem ug_fn {K : Int32 → bp_M β} (kx : tE C sa (K (nI (ti t (8, 0, 0)))) t Q) : tE C sa (bp_getI 6 2 (C + 8) K) t Q := tE_up (fun _ _ kx => g_fn kx) kx
theorem ug_li {K : Int32 → bp_M β} (kx : tE C sa (K (nI (ti t (9, 0, 0)))) t Q) : tE C sa (bp_getI 1 1 (C + 9) K) t Q := tE_up (fun _ _ kx => g_li kx) kx
theorem up_li {v : Int32} (n : Nat) (hv : v = nI (n)) (kx : tE C sa P (si t (9, 0, 0) n) Q) : tE C sa (bp_putI 1 1 (C + 9) v P) t Q := tE_up (fun _ _ kx => p_li n hv kx) kx
theorem ug_ra {K : Int32 → bp_M β} (kx : tE C sa (K (nI (ti t (10, 0, 0)))) t Q) : tE C sa (bp_getI 1 2 (C + 9) K) t Q := tE_up (fun _ _ kx => g_ra kx) kx
theorem up_ra {v : Int32} (n : Nat) (hv : v = nI (n)) (kx : tE C sa P (si t (10, 0, 0) n) Q) : tE C sa (bp_putI 1 2 (C + 9) v P) t Q := tE_up (fun _ _ kx => p_ra n hv kx) kx
theorem ug_la {K : Int32 → bp_M β} (kx : tE C sa (K (nI (ti t (11, 0, 0)) - 1)) t Q) : tE C sa (bp_getI 1 3 (C + 9) K) t Q := tE_up (fun _ _ kx => g_la kx) kx
theorem up_la {v : Int32} (n : Nat) (hv : v = nI (n) - 1) (kx : tE C sa P (si t (11, 0, 0) n) Q) : tE C sa (bp_putI 1 3 (C + 9) v P) t Q := tE_up (fun _ _ kx => p_la n hv kx) kx
theorem ug_op {K : Int32 → bp_M β} (kx : tE C sa (K (nI (ti t (12, 0, 0)) - 1)) t Q) : tE C sa (bp_getI 1 4 (C + 9) K) t Q := tE_up (fun _ _ kx => g_op kx) kx
theorem up_op {v : Int32} (n : Nat) (hv : v = nI (n) - 1) (kx : tE C sa P (si t (12, 0, 0) n) Q) : tE C sa (bp_putI 1 4 (C + 9) v P) t Q := tE_up (fun _ _ kx => p_op n hv kx) kx
theorem ug_sm {K : Int32 → bp_M β} (kx : tE C sa (K (nI (ti t (13, 0, 0)))) t Q) : tE C sa (bp_getI 1 5 (C + 9) K) t Q := tE_up (fun _ _ kx => g_sm kx) kx
theorem up_sm {v : Int32} (n : Nat) (hv : v = nI (n)) (kx : tE C sa P (si t (13, 0, 0) n) Q) : tE C sa (bp_putI 1 5 (C + 9) v P) t Q := tE_up (fun _ _ kx => p_sm n hv kx) kx
theorem ug_gl {K : Int32 → bp_M β} (kx : tE C sa (K (nI (ti t (14, 0, 0)))) t Q) : tE C sa (bp_getI 1 6 (C + 9) K) t Q := tE_up (fun _ _ kx => g_gl kx) kx
theorem up_gl {v : Int32} (n : Nat) (hz : v = 0 ∨ v = 1) (hv : v = nI (n)) (kx : tE C sa P (si t (14, 0, 0) n) Q) : tE C sa (bp_putZ 1 6 (C + 9) v P) t Q := tE_up (fun _ _ kx => p_gl n hz hv kx) kx
theorem ug_wr (j : Nat) {i : Int32} {K : Int32 → bp_M β} (hi : i = nI j) (hj : j < 6000) (kx : tE C sa (K (cb (ti t (15, j, 0)))) t Q) : tE C sa (bp_aldI 21 (C + 4) i K) t Q := tE_up (fun _ _ kx => g_wr j hi hj kx) kx
theorem up_wr (j n : Nat) {i v : Int32} (hi : i = nI j) (hj : j < 6000) (hv : v.toInt8.toInt32 = cb n) (kx : tE C sa P (si t (15, j, 0) n) Q) : tE C sa (bp_astB (C + 4) i v P) t Q := tE_up (fun _ _ kx => p_wr j n hi hj hv kx) kx
theorem ug_cm (j : Nat) {i : Int32} {K : Int32 → bp_M β} (hi : i = nI j) (hj : j < 3000) (kx : tE C sa (K (cb (ti t (16, j, 0)))) t Q) : tE C sa (bp_aldI 21 (C + 5) i K) t Q := tE_up (fun _ _ kx => g_cm j hi hj kx) kx
theorem up_cm (j n : Nat) {i v : Int32} (hi : i = nI j) (hj : j < 3000) (hv : v.toInt8.toInt32 = cb n) (kx : tE C sa P (si t (16, j, 0) n) Q) : tE C sa (bp_astB (C + 5) i v P) t Q := tE_up (fun _ _ kx => p_cm j n hi hj hv kx) kx
theorem ug_gm (j : Nat) {i : Int32} {K : Int32 → bp_M β} (hi : i = nI j) (hj : j < 3000) (kx : tE C sa (K (cb (ti t (17, j, 0)))) t Q) : tE C sa (bp_aldI 21 (C + 6) i K) t Q := tE_up (fun _ _ kx => g_gm j hi hj kx) kx
theorem up_gm (j n : Nat) {i v : Int32} (hi : i = nI j) (hj : j < 3000) (hv : v.toInt8.toInt32 = cb n) (kx : tE C sa P (si t (17, j, 0) n) Q) : tE C sa (bp_astB (C + 6) i v P) t Q := tE_up (fun _ _ kx => p_gm j n hi hj hv kx) kx
theorem ug_al (j : Nat) {i : Int32} {K : Int32 → bp_M β} (hi : i = nI j) (hj : j < 3000) (kx : tE C sa (K (cb (ti t (18, j, 0)))) t Q) : tE C sa (bp_aldI 21 (C + 10) i K) t Q := tE_up (fun _ _ kx => g_al j hi hj kx) kx
theorem up_al (j n : Nat) {i v : Int32} (hi : i = nI j) (hj : j < 3000) (hv : v.toInt8.toInt32 = cb n) (kx : tE C sa P (si t (18, j, 0) n) Q) : tE C sa (bp_astB (C + 10) i v P) t Q := tE_up (fun _ _ kx => p_al j n hi hj hv kx) kx
theorem ug_sp {g : Nat} (hg : g < 286) {K : Int32 → bp_M β} (kx : tE C sa (K (nI (ti t (19, g, 0)))) t Q) : tE C sa (bp_getI 3 1 (C + bv_sg g) K) t Q := tE_up (fun _ _ kx => g_sp hg kx) kx
theorem up_sp {g : Nat} (hg : g < 286) {v : Int32} (n : Nat) (hv : v = nI (n)) (kx : tE C sa P (si t (19, g, 0) n) Q) : tE C sa (bp_putI 3 1 (C + bv_sg g) v P) t Q := tE_up (fun _ _ kx => p_sp hg n hv kx) kx
theorem ug_sn {g : Nat} (hg : g < 286) {K : Int32 → bp_M β} (kx : tE C sa (K (nI (ti t (20, g, 0)))) t Q) : tE C sa (bp_getI 3 2 (C + bv_sg g) K) t Q := tE_up (fun _ _ kx => g_sn hg kx) kx
theorem up_sn {g : Nat} (hg : g < 286) {v : Int32} (n : Nat) (hv : v = nI (n)) (kx : tE C sa P (si t (20, g, 0) n) Q) : tE C sa (bp_putI 3 2 (C + bv_sg g) v P) t Q := tE_up (fun _ _ kx => p_sn hg n hv kx) kx
theorem ug_sr {g : Nat} (hg : g < 286) {K : Int32 → bp_M β} (kx : tE C sa (K (nI (ti t (21, g, 0)))) t Q) : tE C sa (bp_getI 3 4 (C + bv_sg g) K) t Q := tE_up (fun _ _ kx => g_sr hg kx) kx
theorem up_sr {g : Nat} (hg : g < 286) {v : Int32} (n : Nat) (hv : v = nI (n)) (kx : tE C sa P (si t (21, g, 0) n) Q) : tE C sa (bp_putI 3 4 (C + bv_sg g) v P) t Q := tE_up (fun _ _ kx => p_sr hg n hv kx) kx
theorem ug_sl {g : Nat} (hg : g < 286) {K : Int32 → bp_M β} (kx : tE C sa (K (nI (ti t (22, g, 0)))) t Q) : tE C sa (bp_getI 3 5 (C + bv_sg g) K) t Q := tE_up (fun _ _ kx => g_sl hg kx) kx
theorem up_sl {g : Nat} (hg : g < 286) {v : Int32} (n : Nat) (hv : v = nI (n)) (kx : tE C sa P (si t (22, g, 0) n) Q) : tE C sa (bp_putI 3 5 (C + bv_sg g) v P) t Q := tE_up (fun _ _ kx => p_sl hg n hv kx) kx
theorem ug_sb {g : Nat} (hg : g < 286) {K : Int32 → bp_M β} (kx : tE C sa (K (nI (ti t (23, g, 0)))) t Q) : tE C sa (bp_getI 3 8 (C + bv_sg g) K) t Q := tE_up (fun _ _ kx => g_sb hg kx) kx
theorem up_sb {g : Nat} (hg : g < 286) {v : Int32} (n : Nat) (hv : v = nI (n)) (kx : tE C sa P (si t (23, g, 0) n) Q) : tE C sa (bp_putI 3 8 (C + bv_sg g) v P) t Q := tE_up (fun _ _ kx => p_sb hg n hv kx) kx
theorem ug_sa {g : Nat} (hg : g < 286) {K : Int32 → bp_M β} (kx : tE C sa (K (nI (ti t (24, g, 0)))) t Q) : tE C sa (bp_getI 3 10 (C + bv_sg g) K) t Q := tE_up (fun _ _ kx => g_sa hg kx) kx
theorem up_sa {g : Nat} (hg : g < 286) {v : Int32} (n : Nat) (hv : v = nI (n)) (kx : tE C sa P (si t (24, g, 0) n) Q) : tE C sa (bp_putI 3 10 (C + bv_sg g) v P) t Q := tE_up (fun _ _ kx => p_sa hg n hv kx) kx
theorem ug_sg {g : Nat} (hg : g < 286) {K : Int32 → bp_M β} (kx : tE C sa (K (nI (ti t (25, g, 0)) - 1)) t Q) : tE C sa (bp_getI 3 12 (C + bv_sg g) K) t Q := tE_up (fun _ _ kx => g_sg hg kx) kx
theorem up_sg {g : Nat} (hg : g < 286) {v : Int32} (n : Nat) (hv : v = nI (n) - 1) (kx : tE C sa P (si t (25, g, 0) n) Q) : tE C sa (bp_putI 3 12 (C + bv_sg g) v P) t Q := tE_up (fun _ _ kx => p_sg hg n hv kx) kx
theorem ug_sf {g : Nat} (j : Nat) (hg : g < 286) {i : Int32} {K : Int32 → bp_M β} (hi : i = nI j) (hj : j < 10) (kx : tE C sa (K (nI (ti t (26, g, j)))) t Q) : tE C sa (bp_aldI 20 (C + (bv_sg g + 1)) i K) t Q := tE_up (fun _ _ kx => g_sf j hg hi hj kx) kx
theorem up_sf {g : Nat} (j n : Nat) (hg : g < 286) {i v : Int32} (hi : i = nI j) (hj : j < 10) (hv : v = nI (n)) (kx : tE C sa P (si t (26, g, j) n) Q) : tE C sa (bp_astI (C + (bv_sg g + 1)) i v P) t Q := tE_up (fun _ _ kx => p_sf j n hg hi hj hv kx) kx
theorem uo_sf {g : Nat} (hg : g < 286) {K : Nat → bp_M β} (kx : tE C sa (K (C + (bv_sg g + 1))) t Q) : tE C sa (bp_getN 3 3 (C + bv_sg g) K) t Q := tE_up (fun _ _ kx => o_sf hg kx) kx
theorem un_sf {g : Nat} (hg : g < 286) {K : Int32 → bp_M β} (kx : tE C sa (K (nI 10)) t Q) : tE C sa (bp_alen 20 (C + (bv_sg g + 1)) K) t Q := tE_up (fun _ _ kx => n_sf hg kx) kx
theorem ug_sv {g : Nat} (j : Nat) (hg : g < 286) {i : Int32} {K : Int32 → bp_M β} (hi : i = nI j) (hj : j < 6) (kx : tE C sa (K (nI (ti t (27, g, j)))) t Q) : tE C sa (bp_aldI 20 (C + (bv_sg g + 2)) i K) t Q := tE_up (fun _ _ kx => g_sv j hg hi hj kx) kx
theorem up_sv {g : Nat} (j n : Nat) (hg : g < 286) {i v : Int32} (hi : i = nI j) (hj : j < 6) (hv : v = nI (n)) (kx : tE C sa P (si t (27, g, j) n) Q) : tE C sa (bp_astI (C + (bv_sg g + 2)) i v P) t Q := tE_up (fun _ _ kx => p_sv j n hg hi hj hv kx) kx
theorem uo_sv {g : Nat} (hg : g < 286) {K : Nat → bp_M β} (kx : tE C sa (K (C + (bv_sg g + 2))) t Q) : tE C sa (bp_getN 3 6 (C + bv_sg g) K) t Q := tE_up (fun _ _ kx => o_sv hg kx) kx
theorem un_sv {g : Nat} (hg : g < 286) {K : Int32 → bp_M β} (kx : tE C sa (K (nI 6)) t Q) : tE C sa (bp_alen 20 (C + (bv_sg g + 2)) K) t Q := tE_up (fun _ _ kx => n_sv hg kx) kx
theorem ug_sy {g : Nat} (j : Nat) (hg : g < 286) {i : Int32} {K : Int32 → bp_M β} (hi : i = nI j) (hj : j < 20) (kx : tE C sa (K (cb (ti t (28, g, j)))) t Q) : tE C sa (bp_aldI 21 (C + (bv_sg g + 3)) i K) t Q := tE_up (fun _ _ kx => g_sy j hg hi hj kx) kx
theorem up_sy {g : Nat} (j n : Nat) (hg : g < 286) {i v : Int32} (hi : i = nI j) (hj : j < 20) (hv : v.toInt8.toInt32 = cb n) (kx : tE C sa P (si t (28, g, j) n) Q) : tE C sa (bp_astB (C + (bv_sg g + 3)) i v P) t Q := tE_up (fun _ _ kx => p_sy j n hg hi hj hv kx) kx
theorem uo_sy {g : Nat} (hg : g < 286) {K : Nat → bp_M β} (kx : tE C sa (K (C + (bv_sg g + 3))) t Q) : tE C sa (bp_getN 3 7 (C + bv_sg g) K) t Q := tE_up (fun _ _ kx => o_sy hg kx) kx
theorem un_sy {g : Nat} (hg : g < 286) {K : Int32 → bp_M β} (kx : tE C sa (K (nI 20)) t Q) : tE C sa (bp_alen 21 (C + (bv_sg g + 3)) K) t Q := tE_up (fun _ _ kx => n_sy hg kx) kx
theorem ug_sw {g : Nat} (j : Nat) (hg : g < 286) {i : Int32} {K : Int32 → bp_M β} (hi : i = nI j) (hj : j < 16) (kx : tE C sa (K (nI (ti t (29, g, j)))) t Q) : tE C sa (bp_aldI 20 (C + (bv_sg g + 4)) i K) t Q := tE_up (fun _ _ kx => g_sw j hg hi hj kx) kx
theorem up_sw {g : Nat} (j n : Nat) (hg : g < 286) {i v : Int32} (hi : i = nI j) (hj : j < 16) (hv : v = nI (n)) (kx : tE C sa P (si t (29, g, j) n) Q) : tE C sa (bp_astI (C + (bv_sg g + 4)) i v P) t Q := tE_up (fun _ _ kx => p_sw j n hg hi hj hv kx) kx
theorem uo_sw {g : Nat} (hg : g < 286) {K : Nat → bp_M β} (kx : tE C sa (K (C + (bv_sg g + 4))) t Q) : tE C sa (bp_getN 3 9 (C + bv_sg g) K) t Q := tE_up (fun _ _ kx => o_sw hg kx) kx
theorem un_sw {g : Nat} (hg : g < 286) {K : Int32 → bp_M β} (kx : tE C sa (K (nI 16)) t Q) : tE C sa (bp_alen 20 (C + (bv_sg g + 4)) K) t Q := tE_up (fun _ _ kx => n_sw hg kx) kx
theorem ug_hm {p : Nat} (hp : p < 10) {K : Int32 → bp_M β} (kx : tE C sa (K (nI (ti t (30, p, 0)))) t Q) : tE C sa (bp_getI 2 2 (C + bv_hp p) K) t Q := tE_up (fun _ _ kx => g_hm hp kx) kx
theorem up_hm {p : Nat} (hp : p < 10) {v : Int32} (n : Nat) (hv : v = nI n) (kx : tE C sa P (si t (30, p, 0) n) Q) : tE C sa (bp_putI 2 2 (C + bv_hp p) v P) t Q := tE_up (fun _ _ kx => p_hm hp n hv kx) kx
theorem ug_hw {p : Nat} (hp : p < 10) {K : Int32 → bp_M β} (kx : tE C sa (K (nI (ti t (31, p, 0)))) t Q) : tE C sa (bp_getI 2 3 (C + bv_hp p) K) t Q := tE_up (fun _ _ kx => g_hw hp kx) kx
theorem up_hw {p : Nat} (hp : p < 10) {v : Int32} (n : Nat) (hv : v = nI n) (kx : tE C sa P (si t (31, p, 0) n) Q) : tE C sa (bp_putI 2 3 (C + bv_hp p) v P) t Q := tE_up (fun _ _ kx => p_hw hp n hv kx) kx
theorem ug_hh {p : Nat} (hp : p < 10) {K : Int32 → bp_M β} (kx : tE C sa (K (nI (ti t (32, p, 0)))) t Q) : tE C sa (bp_getI 2 4 (C + bv_hp p) K) t Q := tE_up (fun _ _ kx => g_hh hp kx) kx
theorem up_hh {p : Nat} (hp : p < 10) {v : Int32} (n : Nat) (hv : v = nI n) (kx : tE C sa P (si t (32, p, 0) n) Q) : tE C sa (bp_putI 2 4 (C + bv_hp p) v P) t Q := tE_up (fun _ _ kx => p_hh hp n hv kx) kx
theorem ug_ho {p : Nat} (hp : p < 10) {K : Int32 → bp_M β} (kx : tE C sa (K (nI (ti t (33, p, 0)))) t Q) : tE C sa (bp_getI 2 5 (C + bv_hp p) K) t Q := tE_up (fun _ _ kx => g_ho hp kx) kx
theorem up_ho {p : Nat} (hp : p < 10) {v : Int32} (n : Nat) (hv : v = nI n) (kx : tE C sa P (si t (33, p, 0) n) Q) : tE C sa (bp_putI 2 5 (C + bv_hp p) v P) t Q := tE_up (fun _ _ kx => p_ho hp n hv kx) kx
theorem ug_ht {p : Nat} (hp : p < 10) {K : Int32 → bp_M β} (kx : tE C sa (K (nI (ti t (34, p, 0)))) t Q) : tE C sa (bp_getI 2 6 (C + bv_hp p) K) t Q := tE_up (fun _ _ kx => g_ht hp kx) kx
theorem up_ht {p : Nat} (hp : p < 10) {v : Int32} (n : Nat) (hz : v = 0 ∨ v = 1) (hv : v = nI n) (kx : tE C sa P (si t (34, p, 0) n) Q) : tE C sa (bp_putZ 2 6 (C + bv_hp p) v P) t Q := tE_up (fun _ _ kx => p_ht hp n hz hv kx) kx
theorem ug_hr {p : Nat} (j : Nat) (hp : p < 10) {i : Int32} {K : Int32 → bp_M β} (hi : i = nI j) (hj : j < 32) (kx : tE C sa (K (nI (ti t (35, p, j)))) t Q) : tE C sa (bp_aldI 20 (C + (bv_hp p + 1)) i K) t Q := tE_up (fun _ _ kx => g_hr j hp hi hj kx) kx
theorem up_hr {p : Nat} (j n : Nat) (hp : p < 10) {i v : Int32} (hi : i = nI j) (hj : j < 32) (hv : v = nI n) (kx : tE C sa P (si t (35, p, j) n) Q) : tE C sa (bp_astI (C + (bv_hp p + 1)) i v P) t Q := tE_up (fun _ _ kx => p_hr j n hp hi hj hv kx) kx
theorem uo_hr {p : Nat} (hp : p < 10) {K : Nat → bp_M β} (kx : tE C sa (K (C + (bv_hp p + 1))) t Q) : tE C sa (bp_getN 2 0 (C + bv_hp p) K) t Q := tE_up (fun _ _ kx => o_hr hp kx) kx
theorem ug_hs {p : Nat} (j : Nat) (hp : p < 10) {i : Int32} {K : Int32 → bp_M β} (hi : i = nI j) (hj : j < 32) (kx : tE C sa (K (nI (ti t (36, p, j)))) t Q) : tE C sa (bp_aldI 20 (C + (bv_hp p + 2)) i K) t Q := tE_up (fun _ _ kx => g_hs j hp hi hj kx) kx
theorem up_hs {p : Nat} (j n : Nat) (hp : p < 10) {i v : Int32} (hi : i = nI j) (hj : j < 32) (hv : v = nI n) (kx : tE C sa P (si t (36, p, j) n) Q) : tE C sa (bp_astI (C + (bv_hp p + 2)) i v P) t Q := tE_up (fun _ _ kx => p_hs j n hp hi hj hv kx) kx
theorem uo_hs {p : Nat} (hp : p < 10) {K : Nat → bp_M β} (kx : tE C sa (K (C + (bv_hp p + 2))) t Q) : tE C sa (bp_getN 2 1 (C + bv_hp p) K) t Q := tE_up (fun _ _ kx => o_hs hp kx) kx
theorem uis_0 (kx : tE C sa P t Q) : tE C sa (bp_is 0 (C + 0) P) t Q := tE_up (fun _ _ kx => is_0 kx) kx
theorem uis_1 (kx : tE C sa P t Q) : tE C sa (bp_is 6 (C + 1) P) t Q := tE_up (fun _ _ kx => is_1 kx) kx
theorem uis_8 (kx : tE C sa P t Q) : tE C sa (bp_is 6 (C + 8) P) t Q := tE_up (fun _ _ kx => is_8 kx) kx
theorem uis_9 (kx : tE C sa P t Q) : tE C sa (bp_is 1 (C + 9) P) t Q := tE_up (fun _ _ kx => is_9 kx) kx
theorem uis_sg {g : Nat} (hg : g < 286) (kx : tE C sa P t Q) : tE C sa (bp_is 3 (C + bv_sg g) P) t Q := tE_up (fun _ _ kx => is_sg hg kx) kx
theorem uis_hp {p : Nat} (hp : p < 10) (kx : tE C sa P t Q) : tE C sa (bp_is 2 (C + bv_hp p) P) t Q := tE_up (fun _ _ kx => is_hp hp kx) kx
theorem uo_0_1 {K : Nat → bp_M β} (kx : tE C sa (K (C + 1)) t Q) : tE C sa (bp_getN 0 1 (C + 0) K) t Q := tE_up (fun _ _ kx => o_0_1 kx) kx
theorem uo_0_2 {K : Nat → bp_M β} (kx : tE C sa (K (C + 2)) t Q) : tE C sa (bp_getN 0 2 (C + 0) K) t Q := tE_up (fun _ _ kx => o_0_2 kx) kx
theorem uo_0_3 {K : Nat → bp_M β} (kx : tE C sa (K (C + 3)) t Q) : tE C sa (bp_getN 0 3 (C + 0) K) t Q := tE_up (fun _ _ kx => o_0_3 kx) kx
theorem uo_0_4 {K : Nat → bp_M β} (kx : tE C sa (K (C + 4)) t Q) : tE C sa (bp_getN 0 4 (C + 0) K) t Q := tE_up (fun _ _ kx => o_0_4 kx) kx
theorem uo_0_6 {K : Nat → bp_M β} (kx : tE C sa (K (C + 5)) t Q) : tE C sa (bp_getN 0 6 (C + 0) K) t Q := tE_up (fun _ _ kx => o_0_6 kx) kx
theorem uo_0_8 {K : Nat → bp_M β} (kx : tE C sa (K (C + 6)) t Q) : tE C sa (bp_getN 0 8 (C + 0) K) t Q := tE_up (fun _ _ kx => o_0_8 kx) kx
theorem uo_0_10 {K : Nat → bp_M β} (kx : tE C sa (K (C + 7)) t Q) : tE C sa (bp_getN 0 10 (C + 0) K) t Q := tE_up (fun _ _ kx => o_0_10 kx) kx
theorem uo_0_11 {K : Nat → bp_M β} (kx : tE C sa (K (C + 8)) t Q) : tE C sa (bp_getN 0 11 (C + 0) K) t Q := tE_up (fun _ _ kx => o_0_11 kx) kx
theorem uo_0_12 {K : Nat → bp_M β} (kx : tE C sa (K (C + 9)) t Q) : tE C sa (bp_getN 0 12 (C + 0) K) t Q := tE_up (fun _ _ kx => o_0_12 kx) kx
theorem uo_9_0 {K : Nat → bp_M β} (kx : tE C sa (K (C + 10)) t Q) : tE C sa (bp_getN 1 0 (C + 9) K) t Q := tE_up (fun _ _ kx => o_9_0 kx) kx
theorem uo_9_7 {K : Nat → bp_M β} (kx : tE C sa (K (C + 0)) t Q) : tE C sa (bp_getN 1 7 (C + 9) K) t Q := tE_up (fun _ _ kx => o_9_7 kx) kx
theorem ux_tl (j : Nat) {i : Int32} {K : Nat → bp_M β} (hi : i = nI j) (hj : j < 30) (kx : tE C sa (K (C + bv_sg j)) t Q) : tE C sa (bp_aldN 24 (C + 2) i K) t Q := tE_up (fun _ _ kx => x_tl j hi hj kx) kx
theorem ux_rd (j : Nat) {i : Int32} {K : Nat → bp_M β} (hi : i = nI j) (hj : j < 256) (kx : tE C sa (K (C + bv_sg (30 + j))) t Q) : tE C sa (bp_aldN 24 (C + 3) i K) t Q := tE_up (fun _ _ kx => x_rd j hi hj kx) kx
theorem ux_sh (j : Nat) {i : Int32} {K : Nat → bp_M β} (hi : i = nI j) (hj : j < 10) (kx : tE C sa (K (C + bv_hp j)) t Q) : tE C sa (bp_aldN 25 (C + 7) i K) t Q := tE_up (fun _ _ kx => x_sh j hi hj kx) kx
theorem un_sh {K : Int32 → bp_M β} (kx : tE C sa (K (nI 10)) t Q) : tE C sa (bp_alen 25 (C + 7) K) t Q := tE_up (fun _ _ kx => n_sh kx) kx
theorem ug_sL {g : Nat} (hg : g < 286) {K : Int64 → bp_M β} (kx : tE C sa (K (Int64.ofNat (tL t g))) t Q) : tE C sa (bp_getL 3 11 (C + bv_sg g) K) t Q := tE_up (fun _ _ kx => g_sL hg kx) kx
theorem up_sL {g : Nat} (hg : g < 286) {v : Int64} (n : Nat) (hv : v = Int64.ofNat n) (kx : tE C sa P (sL t g n) Q) : tE C sa (bp_putL 3 11 (C + bv_sg g) v P) t Q := tE_up (fun _ _ kx => p_sL hg n hv kx) kx
theorem ug_sk {g : Nat} (hg : g < 286) {K : Nat → bp_M β} (k0 : tk t g < 10) (kx : tE C sa (K (sa (11 + tk t g))) t Q) : tE C sa (bp_getN 3 0 (C + bv_sg g) K) t Q := tE_up (fun _ _ kx => g_sk hg (fun _ => kx)) kx
theorem up_sk {g k : Nat} (hg : g < 286) (hk : k < 10) (kx : tE C sa P (sk t g k) Q) : tE C sa (bp_putR 3 0 (C + bv_sg g) (some (sa (11 + k))) P) t Q := tE_up (fun _ _ kx => p_sk hg hk kx) kx
theorem ut_gets {i : Nat} {K : Nat → bp_M β} (hi : i < 9 ∨ (11 ≤ i ∧ i < 22)) (kx : tE C sa (K (sa i)) t Q) : tE C sa (bp_gets i K) t Q := tE_up (fun _ _ kx => t_gets hi kx) kx
theorem ut_aldS {i j : Nat} {x : Int32} {K : Int32 → bp_M β} (h1 : 1 ≤ i) (h2 : i < 8) (hx : x = nI j) (hj : j < (bv_tb i).length) (hl : (bv_tb i).length < 2 ^ 31) (kx : tE C sa (K ((bv_tb i).getD j 0)) t Q) : tE C sa (bp_aldI 20 (sa i) x K) t Q := tE_up (fun _ _ kx => t_aldS h1 h2 hx hj hl kx) kx
theorem ut_alenS {K : Int32 → bp_M β} (kx : tE C sa (K (nI 8)) t Q) : tE C sa (bp_alen 20 (sa 1) K) t Q := tE_up (fun _ _ kx => t_alenS kx) kx
theorem ut_alenK {K : Int32 → bp_M β} (kx : tE C sa (K (nI 10)) t Q) : tE C sa (bp_alen 26 (sa 0) K) t Q := tE_up (fun _ _ kx => t_alenK kx) kx
theorem ut_aldK {x : Int32} (j : Nat) {K : Nat → bp_M β} (hx : x = nI j) (hj : j < 10) (kx : tE C sa (K (sa (11 + j))) t Q) : tE C sa (bp_aldN 26 (sa 0) x K) t Q := tE_up (fun _ _ kx => t_aldK j hx hj kx) kx
theorem ut_getK0 {j : Nat} {K : Int32 → bp_M β} (hj : j < 10) (kx : tE C sa (K (bv_code j)) t Q) : tE C sa (bp_getI 8 0 (sa (11 + j)) K) t Q := tE_up (fun _ _ kx => t_getK0 hj kx) kx
theorem ut_getK1 {j : Nat} {K : Int32 → bp_M β} (hj : j < 10) (kx : tE C sa (K (bv_nums j)) t Q) : tE C sa (bp_getI 8 1 (sa (11 + j)) K) t Q := tE_up (fun _ _ kx => t_getK1 hj kx) kx
theorem ut_getK2 {j : Nat} {K : Int32 → bp_M β} (hj : j < 10) (kx : tE C sa (K (nI j)) t Q) : tE C sa (bp_getI 8 2 (sa (11 + j)) K) t Q := tE_up (fun _ _ kx => t_getK2 hj kx) kx
theorem ut_isK {j : Nat} (hj : j < 10) (kx : tE C sa P t Q) : tE C sa (bp_is 8 (sa (11 + j)) P) t Q := tE_up (fun _ _ kx => t_isK hj kx) kx
end UR
section ER
variable {α β : Type} {C : Nat} {sa : Nat → Nat} {P : bp_M β} {s : bv_S} {Q : β → bv_S → Prop}
theorem eg_0 {K : Int32 → bp_M β} (k : sE C sa (K (bv_i s 1471 0)) s Q) : sE C sa (bp_getI 4 0 (C + 1471) K) s Q := sE_get (by decide) (fun _ _ k => mg_0 k) k
theorem ep_0 {v : Int32} (k : sE C sa P (bv_I s 1471 0 v) Q) : sE C sa (bp_putI 4 0 (C + 1471) v P) s Q := sE_put (by decide) (fun _ _ k => mp_0 k) k
theorem eg_1 {K : Int32 → bp_M β} (k : sE C sa (K (bv_i s 1471 1)) s Q) : sE C sa (bp_getI 4 1 (C + 1471) K) s Q := sE_get (by decide) (fun _ _ k => mg_1 k) k
theorem ep_1 {v : Int32} (k : sE C sa P (bv_I s 1471 1 v) Q) : sE C sa (bp_putI 4 1 (C + 1471) v P) s Q := sE_put (by decide) (fun _ _ k => mp_1 k) k
theorem eg_2 {K : Int32 → bp_M β} (k : sE C sa (K (bv_i s 1471 2)) s Q) : sE C sa (bp_getI 4 2 (C + 1471) K) s Q := sE_get (by decide) (fun _ _ k => mg_2 k) k
theorem ep_2 {v : Int32} (k : sE C sa P (bv_I s 1471 2 v) Q) : sE C sa (bp_putI 4 2 (C + 1471) v P) s Q := sE_put (by decide) (fun _ _ k => mp_2 k) k
theorem eg_13 {K : Int32 → bp_M β} (k : sE C sa (K (bv_i s 1471 13)) s Q) : sE C sa (bp_getI 4 13 (C + 1471) K) s Q := sE_get (by decide) (fun _ _ k => mg_13 k) k
theorem ep_13 {v : Int32} (k : sE C sa P (bv_I s 1471 13 v) Q) : sE C sa (bp_putI 4 13 (C + 1471) v P) s Q := sE_put (by decide) (fun _ _ k => mp_13 k) k
theorem eg_15 {K : Int32 → bp_M β} (k : sE C sa (K (bv_i s 1471 15)) s Q) : sE C sa (bp_getI 4 15 (C + 1471) K) s Q := sE_get (by decide) (fun _ _ k => mg_15 k) k
theorem ep_15 {v : Int32} (k : sE C sa P (bv_I s 1471 15 v) Q) : sE C sa (bp_putI 4 15 (C + 1471) v P) s Q := sE_put (by decide) (fun _ _ k => mp_15 k) k
theorem eg_17 {K : Int32 → bp_M β} (k : sE C sa (K (bv_i s 1471 17)) s Q) : sE C sa (bp_getI 4 17 (C + 1471) K) s Q := sE_get (by decide) (fun _ _ k => mg_17 k) k
theorem ep_17 {v : Int32} (k : sE C sa P (bv_I s 1471 17 v) Q) : sE C sa (bp_putI 4 17 (C + 1471) v P) s Q := sE_put (by decide) (fun _ _ k => mp_17 k) k
theorem eg_19 {K : Int32 → bp_M β} (k : sE C sa (K (bv_i s 1471 19)) s Q) : sE C sa (bp_getI 4 19 (C + 1471) K) s Q := sE_get (by decide) (fun _ _ k => mg_19 k) k
theorem ep_19 {v : Int32} (k : sE C sa P (bv_I s 1471 19 v) Q) : sE C sa (bp_putI 4 19 (C + 1471) v P) s Q := sE_put (by decide) (fun _ _ k => mp_19 k) k
theorem eg_20 {K : Int32 → bp_M β} (k : sE C sa (K (bv_i s 1471 20)) s Q) : sE C sa (bp_getI 4 20 (C + 1471) K) s Q := sE_get (by decide) (fun _ _ k => mg_20 k) k
theorem ep_20 {v : Int32} (k : sE C sa P (bv_I s 1471 20 v) Q) : sE C sa (bp_putI 4 20 (C + 1471) v P) s Q := sE_put (by decide) (fun _ _ k => mp_20 k) k
theorem eg_21 {K : Int32 → bp_M β} (k : sE C sa (K (bv_i s 1471 21)) s Q) : sE C sa (bp_getI 4 21 (C + 1471) K) s Q := sE_get (by decide) (fun _ _ k => mg_21 k) k
theorem ep_21 {v : Int32} (k : sE C sa P (bv_I s 1471 21 v) Q) : sE C sa (bp_putI 4 21 (C + 1471) v P) s Q := sE_put (by decide) (fun _ _ k => mp_21 k) k
theorem eg_22 {K : Int32 → bp_M β} (k : sE C sa (K (bv_i s 1471 22)) s Q) : sE C sa (bp_getI 4 22 (C + 1471) K) s Q := sE_get (by decide) (fun _ _ k => mg_22 k) k
theorem ep_22 {v : Int32} (k : sE C sa P (bv_I s 1471 22 v) Q) : sE C sa (bp_putI 4 22 (C + 1471) v P) s Q := sE_put (by decide) (fun _ _ k => mp_22 k) k
theorem eg_23 {K : Int32 → bp_M β} (k : sE C sa (K (bv_i s 1471 23)) s Q) : sE C sa (bp_getI 4 23 (C + 1471) K) s Q := sE_get (by decide) (fun _ _ k => mg_23 k) k
theorem ep_23 {v : Int32} (k : sE C sa P (bv_I s 1471 23 v) Q) : sE C sa (bp_putI 4 23 (C + 1471) v P) s Q := sE_put (by decide) (fun _ _ k => mp_23 k) k
theorem eg_24 {K : Int32 → bp_M β} (k : sE C sa (K (bv_i s 1471 24)) s Q) : sE C sa (bp_getI 4 24 (C + 1471) K) s Q := sE_get (by decide) (fun _ _ k => mg_24 k) k
theorem ep_24 {v : Int32} (k : sE C sa P (bv_I s 1471 24 v) Q) : sE C sa (bp_putI 4 24 (C + 1471) v P) s Q := sE_put (by decide) (fun _ _ k => mp_24 k) k
theorem eg_25 {K : Int32 → bp_M β} (k : sE C sa (K (bv_i s 1471 25)) s Q) : sE C sa (bp_getI 4 25 (C + 1471) K) s Q := sE_get (by decide) (fun _ _ k => mg_25 k) k
theorem ep_25 {v : Int32} (k : sE C sa P (bv_I s 1471 25 v) Q) : sE C sa (bp_putI 4 25 (C + 1471) v P) s Q := sE_put (by decide) (fun _ _ k => mp_25 k) k
theorem eg_39 {K : Int32 → bp_M β} (k : sE C sa (K (bv_i s 1471 39)) s Q) : sE C sa (bp_getI 4 39 (C + 1471) K) s Q := sE_get (by decide) (fun _ _ k => mg_39 k) k
theorem ep_39 {v : Int32} (k : sE C sa P (bv_I s 1471 39 v) Q) : sE C sa (bp_putI 4 39 (C + 1471) v P) s Q := sE_put (by decide) (fun _ _ k => mp_39 k) k
theorem eg_47 {K : Int32 → bp_M β} (k : sE C sa (K (bv_i s 1471 47)) s Q) : sE C sa (bp_getI 4 47 (C + 1471) K) s Q := sE_get (by decide) (fun _ _ k => mg_47 k) k
theorem ep_47 {v : Int32} (hv : v = 0 ∨ v = 1) (k : sE C sa P (bv_I s 1471 47 v) Q) : sE C sa (bp_putZ 4 47 (C + 1471) v P) s Q := sE_put (by decide) (fun _ _ k => mp_47 hv k) k
theorem eg_48 {K : Int32 → bp_M β} (k : sE C sa (K (bv_i s 1471 48)) s Q) : sE C sa (bp_getI 4 48 (C + 1471) K) s Q := sE_get (by decide) (fun _ _ k => mg_48 k) k
theorem ep_48 {v : Int32} (k : sE C sa P (bv_I s 1471 48 v) Q) : sE C sa (bp_putI 4 48 (C + 1471) v P) s Q := sE_put (by decide) (fun _ _ k => mp_48 k) k
theorem eg_49 {K : Int32 → bp_M β} (k : sE C sa (K (bv_i s 1471 49)) s Q) : sE C sa (bp_getI 4 49 (C + 1471) K) s Q := sE_get (by decide) (fun _ _ k => mg_49 k) k
theorem ep_49 {v : Int32} (k : sE C sa P (bv_I s 1471 49 v) Q) : sE C sa (bp_putI 4 49 (C + 1471) v P) s Q := sE_put (by decide) (fun _ _ k => mp_49 k) k
theorem eo_3 {K : Nat → bp_M β} (k : sE C sa (K (C + 1472)) s Q) : sE C sa (bp_getN 4 3 (C + 1471) K) s Q := sE_up (fun _ _ k => mo_3 k) k
theorem ea_1472 (j : Nat) {i : Int32} {K : Int32 → bp_M β} (hi : i = nI j) (hj : j < 30) (k : sE C sa (K (bv_i s 1472 j)) s Q) : sE C sa (bp_aldI 20 (C + 1472) i K) s Q := sE_get (by decide) (fun _ _ k => ma_1472 j hi hj k) k
theorem eb_1472 (j : Nat) {i v : Int32} (hi : i = nI j) (hj : j < 30) (k : sE C sa P (bv_I s 1472 j v) Q) : sE C sa (bp_astI (C + 1472) i v P) s Q := sE_put (by decide) (fun _ _ k => mb_1472 j hi hj k) k
theorem eo_4 {K : Nat → bp_M β} (k : sE C sa (K (C + 1473)) s Q) : sE C sa (bp_getN 4 4 (C + 1471) K) s Q := sE_up (fun _ _ k => mo_4 k) k
theorem ea_1473 (j : Nat) {i : Int32} {K : Int32 → bp_M β} (hi : i = nI j) (hj : j < 30) (k : sE C sa (K (bv_i s 1473 j)) s Q) : sE C sa (bp_aldI 20 (C + 1473) i K) s Q := sE_get (by decide) (fun _ _ k => ma_1473 j hi hj k) k
theorem eb_1473 (j : Nat) {i v : Int32} (hi : i = nI j) (hj : j < 30) (k : sE C sa P (bv_I s 1473 j v) Q) : sE C sa (bp_astI (C + 1473) i v P) s Q := sE_put (by decide) (fun _ _ k => mb_1473 j hi hj k) k
theorem eo_5 {K : Nat → bp_M β} (k : sE C sa (K (C + 1474)) s Q) : sE C sa (bp_getN 4 5 (C + 1471) K) s Q := sE_up (fun _ _ k => mo_5 k) k
theorem ea_1474 (j : Nat) {i : Int32} {K : Int32 → bp_M β} (hi : i = nI j) (hj : j < 30) (k : sE C sa (K (bv_i s 1474 j)) s Q) : sE C sa (bp_aldI 20 (C + 1474) i K) s Q := sE_get (by decide) (fun _ _ k => ma_1474 j hi hj k) k
theorem eb_1474 (j : Nat) {i v : Int32} (hi : i = nI j) (hj : j < 30) (k : sE C sa P (bv_I s 1474 j v) Q) : sE C sa (bp_astI (C + 1474) i v P) s Q := sE_put (by decide) (fun _ _ k => mb_1474 j hi hj k) k
theorem eo_6 {K : Nat → bp_M β} (k : sE C sa (K (C + 1475)) s Q) : sE C sa (bp_getN 4 6 (C + 1471) K) s Q := sE_up (fun _ _ k => mo_6 k) k
theorem ea_1475 (j : Nat) {i : Int32} {K : Int32 → bp_M β} (hi : i = nI j) (hj : j < 300) (k : sE C sa (K (bv_i s 1475 j)) s Q) : sE C sa (bp_aldI 20 (C + 1475) i K) s Q := sE_get (by decide) (fun _ _ k => ma_1475 j hi hj k) k
theorem eb_1475 (j : Nat) {i v : Int32} (hi : i = nI j) (hj : j < 300) (k : sE C sa P (bv_I s 1475 j v) Q) : sE C sa (bp_astI (C + 1475) i v P) s Q := sE_put (by decide) (fun _ _ k => mb_1475 j hi hj k) k
theorem eo_7 {K : Nat → bp_M β} (k : sE C sa (K (C + 1476)) s Q) : sE C sa (bp_getN 4 7 (C + 1471) K) s Q := sE_up (fun _ _ k => mo_7 k) k
theorem ea_1476 (j : Nat) {i : Int32} {K : Int32 → bp_M β} (hi : i = nI j) (hj : j < 30) (k : sE C sa (K (bv_i s 1476 j)) s Q) : sE C sa (bp_aldI 20 (C + 1476) i K) s Q := sE_get (by decide) (fun _ _ k => ma_1476 j hi hj k) k
theorem eb_1476 (j : Nat) {i v : Int32} (hi : i = nI j) (hj : j < 30) (k : sE C sa P (bv_I s 1476 j v) Q) : sE C sa (bp_astI (C + 1476) i v P) s Q := sE_put (by decide) (fun _ _ k => mb_1476 j hi hj k) k
theorem eo_8 {K : Nat → bp_M β} (k : sE C sa (K (C + 1477)) s Q) : sE C sa (bp_getN 4 8 (C + 1471) K) s Q := sE_up (fun _ _ k => mo_8 k) k
theorem ea_1477 (j : Nat) {i : Int32} {K : Int32 → bp_M β} (hi : i = nI j) (hj : j < 30) (k : sE C sa (K (bv_i s 1477 j)) s Q) : sE C sa (bp_aldI 20 (C + 1477) i K) s Q := sE_get (by decide) (fun _ _ k => ma_1477 j hi hj k) k
theorem eb_1477 (j : Nat) {i v : Int32} (hi : i = nI j) (hj : j < 30) (k : sE C sa P (bv_I s 1477 j v) Q) : sE C sa (bp_astI (C + 1477) i v P) s Q := sE_put (by decide) (fun _ _ k => mb_1477 j hi hj k) k
theorem eo_9 {K : Nat → bp_M β} (k : sE C sa (K (C + 1478)) s Q) : sE C sa (bp_getN 4 9 (C + 1471) K) s Q := sE_up (fun _ _ k => mo_9 k) k
theorem ea_1478 (j : Nat) {i : Int32} {K : Int32 → bp_M β} (hi : i = nI j) (hj : j < 600) (k : sE C sa (K (bv_i s 1478 j)) s Q) : sE C sa (bp_aldI 20 (C + 1478) i K) s Q := sE_get (by decide) (fun _ _ k => ma_1478 j hi hj k) k
theorem eb_1478 (j : Nat) {i v : Int32} (hi : i = nI j) (hj : j < 600) (k : sE C sa P (bv_I s 1478 j v) Q) : sE C sa (bp_astI (C + 1478) i v P) s Q := sE_put (by decide) (fun _ _ k => mb_1478 j hi hj k) k
theorem eo_10 {K : Nat → bp_M β} (k : sE C sa (K (C + 1479)) s Q) : sE C sa (bp_getN 4 10 (C + 1471) K) s Q := sE_up (fun _ _ k => mo_10 k) k
theorem ea_1479 (j : Nat) {i : Int32} {K : Int32 → bp_M β} (hi : i = nI j) (hj : j < 180) (k : sE C sa (K (bv_i s 1479 j)) s Q) : sE C sa (bp_aldI 20 (C + 1479) i K) s Q := sE_get (by decide) (fun _ _ k => ma_1479 j hi hj k) k
theorem eb_1479 (j : Nat) {i v : Int32} (hi : i = nI j) (hj : j < 180) (k : sE C sa P (bv_I s 1479 j v) Q) : sE C sa (bp_astI (C + 1479) i v P) s Q := sE_put (by decide) (fun _ _ k => mb_1479 j hi hj k) k
theorem eo_11 {K : Nat → bp_M β} (k : sE C sa (K (C + 1480)) s Q) : sE C sa (bp_getN 4 11 (C + 1471) K) s Q := sE_up (fun _ _ k => mo_11 k) k
theorem ea_1480 (j : Nat) {i : Int32} {K : Int32 → bp_M β} (hi : i = nI j) (hj : j < 480) (k : sE C sa (K (bv_i s 1480 j)) s Q) : sE C sa (bp_aldI 20 (C + 1480) i K) s Q := sE_get (by decide) (fun _ _ k => ma_1480 j hi hj k) k
theorem eb_1480 (j : Nat) {i v : Int32} (hi : i = nI j) (hj : j < 480) (k : sE C sa P (bv_I s 1480 j v) Q) : sE C sa (bp_astI (C + 1480) i v P) s Q := sE_put (by decide) (fun _ _ k => mb_1480 j hi hj k) k
theorem eo_12 {K : Nat → bp_M β} (k : sE C sa (K (C + 1481)) s Q) : sE C sa (bp_getN 4 12 (C + 1471) K) s Q := sE_up (fun _ _ k => mo_12 k) k
theorem ea_1481 (j : Nat) {i : Int32} {K : Int32 → bp_M β} (hi : i = nI j) (hj : j < 5000) (k : sE C sa (K (bv_i s 1481 j)) s Q) : sE C sa (bp_aldI 20 (C + 1481) i K) s Q := sE_get (by decide) (fun _ _ k => ma_1481 j hi hj k) k
theorem eb_1481 (j : Nat) {i v : Int32} (hi : i = nI j) (hj : j < 5000) (k : sE C sa P (bv_I s 1481 j v) Q) : sE C sa (bp_astI (C + 1481) i v P) s Q := sE_put (by decide) (fun _ _ k => mb_1481 j hi hj k) k
theorem eo_14 {K : Nat → bp_M β} (k : sE C sa (K (C + 1482)) s Q) : sE C sa (bp_getN 4 14 (C + 1471) K) s Q := sE_up (fun _ _ k => mo_14 k) k
theorem ea_1482 (j : Nat) {i : Int32} {K : Int32 → bp_M β} (hi : i = nI j) (hj : j < 3000) (k : sE C sa (K (bv_i s 1482 j)) s Q) : sE C sa (bp_aldI 20 (C + 1482) i K) s Q := sE_get (by decide) (fun _ _ k => ma_1482 j hi hj k) k
theorem eb_1482 (j : Nat) {i v : Int32} (hi : i = nI j) (hj : j < 3000) (k : sE C sa P (bv_I s 1482 j v) Q) : sE C sa (bp_astI (C + 1482) i v P) s Q := sE_put (by decide) (fun _ _ k => mb_1482 j hi hj k) k
theorem eo_16 {K : Nat → bp_M β} (k : sE C sa (K (C + 1483)) s Q) : sE C sa (bp_getN 4 16 (C + 1471) K) s Q := sE_up (fun _ _ k => mo_16 k) k
theorem ea_1483 (j : Nat) {i : Int32} {K : Int32 → bp_M β} (hi : i = nI j) (hj : j < 3000) (k : sE C sa (K (bv_i s 1483 j)) s Q) : sE C sa (bp_aldI 20 (C + 1483) i K) s Q := sE_get (by decide) (fun _ _ k => ma_1483 j hi hj k) k
theorem eb_1483 (j : Nat) {i v : Int32} (hi : i = nI j) (hj : j < 3000) (k : sE C sa P (bv_I s 1483 j v) Q) : sE C sa (bp_astI (C + 1483) i v P) s Q := sE_put (by decide) (fun _ _ k => mb_1483 j hi hj k) k
theorem eo_18 {K : Nat → bp_M β} (k : sE C sa (K (C + 1484)) s Q) : sE C sa (bp_getN 4 18 (C + 1471) K) s Q := sE_up (fun _ _ k => mo_18 k) k
theorem ea_1484 (j : Nat) {i : Int32} {K : Int32 → bp_M β} (hi : i = nI j) (hj : j < 3000) (k : sE C sa (K (bv_i s 1484 j)) s Q) : sE C sa (bp_aldI 20 (C + 1484) i K) s Q := sE_get (by decide) (fun _ _ k => ma_1484 j hi hj k) k
theorem eb_1484 (j : Nat) {i v : Int32} (hi : i = nI j) (hj : j < 3000) (k : sE C sa P (bv_I s 1484 j v) Q) : sE C sa (bp_astI (C + 1484) i v P) s Q := sE_put (by decide) (fun _ _ k => mb_1484 j hi hj k) k
theorem eo_26 {K : Nat → bp_M β} (k : sE C sa (K (C + 1485)) s Q) : sE C sa (bp_getN 4 26 (C + 1471) K) s Q := sE_up (fun _ _ k => mo_26 k) k
theorem ea_1485 (j : Nat) {i : Int32} {K : Int32 → bp_M β} (hi : i = nI j) (hj : j < 256) (k : sE C sa (K (bv_i s 1485 j)) s Q) : sE C sa (bp_aldI 20 (C + 1485) i K) s Q := sE_get (by decide) (fun _ _ k => ma_1485 j hi hj k) k
theorem eb_1485 (j : Nat) {i v : Int32} (hi : i = nI j) (hj : j < 256) (k : sE C sa P (bv_I s 1485 j v) Q) : sE C sa (bp_astI (C + 1485) i v P) s Q := sE_put (by decide) (fun _ _ k => mb_1485 j hi hj k) k
theorem eo_27 {K : Nat → bp_M β} (k : sE C sa (K (C + 1486)) s Q) : sE C sa (bp_getN 4 27 (C + 1471) K) s Q := sE_up (fun _ _ k => mo_27 k) k
theorem ea_1486 (j : Nat) {i : Int32} {K : Int32 → bp_M β} (hi : i = nI j) (hj : j < 256) (k : sE C sa (K (bv_i s 1486 j)) s Q) : sE C sa (bp_aldI 20 (C + 1486) i K) s Q := sE_get (by decide) (fun _ _ k => ma_1486 j hi hj k) k
theorem eb_1486 (j : Nat) {i v : Int32} (hi : i = nI j) (hj : j < 256) (k : sE C sa P (bv_I s 1486 j v) Q) : sE C sa (bp_astI (C + 1486) i v P) s Q := sE_put (by decide) (fun _ _ k => mb_1486 j hi hj k) k
theorem eo_28 {K : Nat → bp_M β} (k : sE C sa (K (C + 1487)) s Q) : sE C sa (bp_getN 4 28 (C + 1471) K) s Q := sE_up (fun _ _ k => mo_28 k) k
theorem ea_1487 (j : Nat) {i : Int32} {K : Int32 → bp_M β} (hi : i = nI j) (hj : j < 256) (k : sE C sa (K (bv_i s 1487 j)) s Q) : sE C sa (bp_aldI 20 (C + 1487) i K) s Q := sE_get (by decide) (fun _ _ k => ma_1487 j hi hj k) k
theorem eb_1487 (j : Nat) {i v : Int32} (hi : i = nI j) (hj : j < 256) (k : sE C sa P (bv_I s 1487 j v) Q) : sE C sa (bp_astI (C + 1487) i v P) s Q := sE_put (by decide) (fun _ _ k => mb_1487 j hi hj k) k
theorem eo_29 {K : Nat → bp_M β} (k : sE C sa (K (C + 1488)) s Q) : sE C sa (bp_getN 4 29 (C + 1471) K) s Q := sE_up (fun _ _ k => mo_29 k) k
theorem ea_1488 (j : Nat) {i : Int32} {K : Int32 → bp_M β} (hi : i = nI j) (hj : j < 256) (k : sE C sa (K (bv_i s 1488 j)) s Q) : sE C sa (bp_aldI 20 (C + 1488) i K) s Q := sE_get (by decide) (fun _ _ k => ma_1488 j hi hj k) k
theorem eb_1488 (j : Nat) {i v : Int32} (hi : i = nI j) (hj : j < 256) (k : sE C sa P (bv_I s 1488 j v) Q) : sE C sa (bp_astI (C + 1488) i v P) s Q := sE_put (by decide) (fun _ _ k => mb_1488 j hi hj k) k
theorem eo_30 {K : Nat → bp_M β} (k : sE C sa (K (C + 1489)) s Q) : sE C sa (bp_getN 4 30 (C + 1471) K) s Q := sE_up (fun _ _ k => mo_30 k) k
theorem ea_1489 (j : Nat) {i : Int32} {K : Int32 → bp_M β} (hi : i = nI j) (hj : j < 256) (k : sE C sa (K (bv_i s 1489 j)) s Q) : sE C sa (bp_aldI 20 (C + 1489) i K) s Q := sE_get (by decide) (fun _ _ k => ma_1489 j hi hj k) k
theorem eb_1489 (j : Nat) {i v : Int32} (hi : i = nI j) (hj : j < 256) (k : sE C sa P (bv_I s 1489 j v) Q) : sE C sa (bp_astI (C + 1489) i v P) s Q := sE_put (by decide) (fun _ _ k => mb_1489 j hi hj k) k
theorem eo_31 {K : Nat → bp_M β} (k : sE C sa (K (C + 1490)) s Q) : sE C sa (bp_getN 4 31 (C + 1471) K) s Q := sE_up (fun _ _ k => mo_31 k) k
theorem ea_1490 (j : Nat) {i : Int32} {K : Int32 → bp_M β} (hi : i = nI j) (hj : j < 2560) (k : sE C sa (K (bv_i s 1490 j)) s Q) : sE C sa (bp_aldI 20 (C + 1490) i K) s Q := sE_get (by decide) (fun _ _ k => ma_1490 j hi hj k) k
theorem eb_1490 (j : Nat) {i v : Int32} (hi : i = nI j) (hj : j < 2560) (k : sE C sa P (bv_I s 1490 j v) Q) : sE C sa (bp_astI (C + 1490) i v P) s Q := sE_put (by decide) (fun _ _ k => mb_1490 j hi hj k) k
theorem eo_32 {K : Nat → bp_M β} (k : sE C sa (K (C + 1491)) s Q) : sE C sa (bp_getN 4 32 (C + 1471) K) s Q := sE_up (fun _ _ k => mo_32 k) k
theorem ea_1491 (j : Nat) {i : Int32} {K : Int32 → bp_M β} (hi : i = nI j) (hj : j < 256) (k : sE C sa (K (bv_i s 1491 j)) s Q) : sE C sa (bp_aldI 20 (C + 1491) i K) s Q := sE_get (by decide) (fun _ _ k => ma_1491 j hi hj k) k
theorem eb_1491 (j : Nat) {i v : Int32} (hi : i = nI j) (hj : j < 256) (k : sE C sa P (bv_I s 1491 j v) Q) : sE C sa (bp_astI (C + 1491) i v P) s Q := sE_put (by decide) (fun _ _ k => mb_1491 j hi hj k) k
theorem eo_33 {K : Nat → bp_M β} (k : sE C sa (K (C + 1492)) s Q) : sE C sa (bp_getN 4 33 (C + 1471) K) s Q := sE_up (fun _ _ k => mo_33 k) k
theorem ea_1492 (j : Nat) {i : Int32} {K : Int64 → bp_M β} (hi : i = nI j) (hj : j < 256) (k : sE C sa (K (bv_l s 1492 j)) s Q) : sE C sa (bp_aldL (C + 1492) i K) s Q := sE_getl (by decide) (by decide) (fun _ _ k => ma_1492 j hi hj k) k
theorem eb_1492 (j : Nat) {i : Int32} {v : Int64} (hi : i = nI j) (hj : j < 256) (k : sE C sa P (bv_L s 1492 j v) Q) : sE C sa (bp_astL (C + 1492) i v P) s Q := sE_putl (by decide) (by decide) (fun _ _ k => mb_1492 j hi hj k) k
theorem eo_34 {K : Nat → bp_M β} (k : sE C sa (K (C + 1493)) s Q) : sE C sa (bp_getN 4 34 (C + 1471) K) s Q := sE_up (fun _ _ k => mo_34 k) k
theorem ea_1493 (j : Nat) {i : Int32} {K : Int32 → bp_M β} (hi : i = nI j) (hj : j < 256) (k : sE C sa (K (bv_i s 1493 j)) s Q) : sE C sa (bp_aldI 20 (C + 1493) i K) s Q := sE_get (by decide) (fun _ _ k => ma_1493 j hi hj k) k
theorem eb_1493 (j : Nat) {i v : Int32} (hi : i = nI j) (hj : j < 256) (k : sE C sa P (bv_I s 1493 j v) Q) : sE C sa (bp_astI (C + 1493) i v P) s Q := sE_put (by decide) (fun _ _ k => mb_1493 j hi hj k) k
theorem eo_35 {K : Nat → bp_M β} (k : sE C sa (K (C + 1494)) s Q) : sE C sa (bp_getN 4 35 (C + 1471) K) s Q := sE_up (fun _ _ k => mo_35 k) k
theorem ea_1494 (j : Nat) {i : Int32} {K : Int32 → bp_M β} (hi : i = nI j) (hj : j < 256) (k : sE C sa (K (bv_i s 1494 j)) s Q) : sE C sa (bp_aldI 20 (C + 1494) i K) s Q := sE_get (by decide) (fun _ _ k => ma_1494 j hi hj k) k
theorem eb_1494 (j : Nat) {i v : Int32} (hi : i = nI j) (hj : j < 256) (k : sE C sa P (bv_I s 1494 j v) Q) : sE C sa (bp_astI (C + 1494) i v P) s Q := sE_put (by decide) (fun _ _ k => mb_1494 j hi hj k) k
theorem eo_36 {K : Nat → bp_M β} (k : sE C sa (K (C + 1495)) s Q) : sE C sa (bp_getN 4 36 (C + 1471) K) s Q := sE_up (fun _ _ k => mo_36 k) k
theorem ea_1495 (j : Nat) {i : Int32} {K : Int32 → bp_M β} (hi : i = nI j) (hj : j < 256) (k : sE C sa (K (bv_i s 1495 j)) s Q) : sE C sa (bp_aldI 20 (C + 1495) i K) s Q := sE_get (by decide) (fun _ _ k => ma_1495 j hi hj k) k
theorem eb_1495 (j : Nat) {i v : Int32} (hi : i = nI j) (hj : j < 256) (k : sE C sa P (bv_I s 1495 j v) Q) : sE C sa (bp_astI (C + 1495) i v P) s Q := sE_put (by decide) (fun _ _ k => mb_1495 j hi hj k) k
theorem eo_37 {K : Nat → bp_M β} (k : sE C sa (K (C + 1496)) s Q) : sE C sa (bp_getN 4 37 (C + 1471) K) s Q := sE_up (fun _ _ k => mo_37 k) k
theorem ea_1496 (j : Nat) {i : Int32} {K : Int32 → bp_M β} (hi : i = nI j) (hj : j < 256) (k : sE C sa (K (bv_i s 1496 j)) s Q) : sE C sa (bp_aldI 20 (C + 1496) i K) s Q := sE_get (by decide) (fun _ _ k => ma_1496 j hi hj k) k
theorem eb_1496 (j : Nat) {i v : Int32} (hi : i = nI j) (hj : j < 256) (k : sE C sa P (bv_I s 1496 j v) Q) : sE C sa (bp_astI (C + 1496) i v P) s Q := sE_put (by decide) (fun _ _ k => mb_1496 j hi hj k) k
theorem eo_38 {K : Nat → bp_M β} (k : sE C sa (K (C + 1497)) s Q) : sE C sa (bp_getN 4 38 (C + 1471) K) s Q := sE_up (fun _ _ k => mo_38 k) k
theorem ea_1497 (j : Nat) {i : Int32} {K : Int32 → bp_M β} (hi : i = nI j) (hj : j < 4096) (k : sE C sa (K (bv_i s 1497 j)) s Q) : sE C sa (bp_aldI 20 (C + 1497) i K) s Q := sE_get (by decide) (fun _ _ k => ma_1497 j hi hj k) k
theorem eb_1497 (j : Nat) {i v : Int32} (hi : i = nI j) (hj : j < 4096) (k : sE C sa P (bv_I s 1497 j v) Q) : sE C sa (bp_astI (C + 1497) i v P) s Q := sE_put (by decide) (fun _ _ k => mb_1497 j hi hj k) k
theorem eo_40 {K : Nat → bp_M β} (k : sE C sa (K (C + 1498)) s Q) : sE C sa (bp_getN 4 40 (C + 1471) K) s Q := sE_up (fun _ _ k => mo_40 k) k
theorem ea_1498 (j : Nat) {i : Int32} {K : Int32 → bp_M β} (hi : i = nI j) (hj : j < 10) (k : sE C sa (K (bv_i s 1498 j)) s Q) : sE C sa (bp_aldI 22 (C + 1498) i K) s Q := sE_get (by decide) (fun _ _ k => ma_1498 j hi hj k) k
theorem eb_1498 (j : Nat) {i v : Int32} (hv : v = 0 ∨ v = 1) (hi : i = nI j) (hj : j < 10) (k : sE C sa P (bv_I s 1498 j v) Q) : sE C sa (bp_astZ (C + 1498) i v P) s Q := sE_put (by decide) (fun _ _ k => mb_1498 j hv hi hj k) k
theorem eo_41 {K : Nat → bp_M β} (k : sE C sa (K (C + 1499)) s Q) : sE C sa (bp_getN 4 41 (C + 1471) K) s Q := sE_up (fun _ _ k => mo_41 k) k
theorem ea_1499 (j : Nat) {i : Int32} {K : Int32 → bp_M β} (hi : i = nI j) (hj : j < 10) (k : sE C sa (K (bv_i s 1499 j)) s Q) : sE C sa (bp_aldI 20 (C + 1499) i K) s Q := sE_get (by decide) (fun _ _ k => ma_1499 j hi hj k) k
theorem eb_1499 (j : Nat) {i v : Int32} (hi : i = nI j) (hj : j < 10) (k : sE C sa P (bv_I s 1499 j v) Q) : sE C sa (bp_astI (C + 1499) i v P) s Q := sE_put (by decide) (fun _ _ k => mb_1499 j hi hj k) k
theorem eo_42 {K : Nat → bp_M β} (k : sE C sa (K (C + 1500)) s Q) : sE C sa (bp_getN 4 42 (C + 1471) K) s Q := sE_up (fun _ _ k => mo_42 k) k
theorem ea_1500 (j : Nat) {i : Int32} {K : Int32 → bp_M β} (hi : i = nI j) (hj : j < 10) (k : sE C sa (K (bv_i s 1500 j)) s Q) : sE C sa (bp_aldI 20 (C + 1500) i K) s Q := sE_get (by decide) (fun _ _ k => ma_1500 j hi hj k) k
theorem eb_1500 (j : Nat) {i v : Int32} (hi : i = nI j) (hj : j < 10) (k : sE C sa P (bv_I s 1500 j v) Q) : sE C sa (bp_astI (C + 1500) i v P) s Q := sE_put (by decide) (fun _ _ k => mb_1500 j hi hj k) k
theorem eo_43 {K : Nat → bp_M β} (k : sE C sa (K (C + 1501)) s Q) : sE C sa (bp_getN 4 43 (C + 1471) K) s Q := sE_up (fun _ _ k => mo_43 k) k
theorem ea_1501 (j : Nat) {i : Int32} {K : Int32 → bp_M β} (hi : i = nI j) (hj : j < 10) (k : sE C sa (K (bv_i s 1501 j)) s Q) : sE C sa (bp_aldI 20 (C + 1501) i K) s Q := sE_get (by decide) (fun _ _ k => ma_1501 j hi hj k) k
theorem eb_1501 (j : Nat) {i v : Int32} (hi : i = nI j) (hj : j < 10) (k : sE C sa P (bv_I s 1501 j v) Q) : sE C sa (bp_astI (C + 1501) i v P) s Q := sE_put (by decide) (fun _ _ k => mb_1501 j hi hj k) k
theorem eo_44 {K : Nat → bp_M β} (k : sE C sa (K (C + 1502)) s Q) : sE C sa (bp_getN 4 44 (C + 1471) K) s Q := sE_up (fun _ _ k => mo_44 k) k
theorem ea_1502 (j : Nat) {i : Int32} {K : Int32 → bp_M β} (hi : i = nI j) (hj : j < 10) (k : sE C sa (K (bv_i s 1502 j)) s Q) : sE C sa (bp_aldI 20 (C + 1502) i K) s Q := sE_get (by decide) (fun _ _ k => ma_1502 j hi hj k) k
theorem eb_1502 (j : Nat) {i v : Int32} (hi : i = nI j) (hj : j < 10) (k : sE C sa P (bv_I s 1502 j v) Q) : sE C sa (bp_astI (C + 1502) i v P) s Q := sE_put (by decide) (fun _ _ k => mb_1502 j hi hj k) k
theorem eo_45 {K : Nat → bp_M β} (k : sE C sa (K (C + 1503)) s Q) : sE C sa (bp_getN 4 45 (C + 1471) K) s Q := sE_up (fun _ _ k => mo_45 k) k
theorem ea_1503 (j : Nat) {i : Int32} {K : Int32 → bp_M β} (hi : i = nI j) (hj : j < 320) (k : sE C sa (K (bv_i s 1503 j)) s Q) : sE C sa (bp_aldI 20 (C + 1503) i K) s Q := sE_get (by decide) (fun _ _ k => ma_1503 j hi hj k) k
theorem eb_1503 (j : Nat) {i v : Int32} (hi : i = nI j) (hj : j < 320) (k : sE C sa P (bv_I s 1503 j v) Q) : sE C sa (bp_astI (C + 1503) i v P) s Q := sE_put (by decide) (fun _ _ k => mb_1503 j hi hj k) k
theorem eo_46 {K : Nat → bp_M β} (k : sE C sa (K (C + 1504)) s Q) : sE C sa (bp_getN 4 46 (C + 1471) K) s Q := sE_up (fun _ _ k => mo_46 k) k
theorem ea_1504 (j : Nat) {i : Int32} {K : Int32 → bp_M β} (hi : i = nI j) (hj : j < 10240) (k : sE C sa (K (bv_i s 1504 j)) s Q) : sE C sa (bp_aldI 22 (C + 1504) i K) s Q := sE_get (by decide) (fun _ _ k => ma_1504 j hi hj k) k
theorem eb_1504 (j : Nat) {i v : Int32} (hv : v = 0 ∨ v = 1) (hi : i = nI j) (hj : j < 10240) (k : sE C sa P (bv_I s 1504 j v) Q) : sE C sa (bp_astZ (C + 1504) i v P) s Q := sE_put (by decide) (fun _ _ k => mb_1504 j hv hi hj k) k
end ER
