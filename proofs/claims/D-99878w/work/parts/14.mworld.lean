/-! the model's world: field k's array lies at b + o -/
def mOff : List (Nat × Nat) := [(1, 1), (3, 2), (5, 3), (6, 4), (7, 5), (8, 6), (9, 7), (21, 8), (22, 9), (23, 10), (24, 11), (25, 12), (26, 13), (27, 14), (28, 15), (29, 16), (30, 17), (31, 18), (32, 19), (33, 20), (34, 21), (35, 22), (36, 23), (37, 24), (38, 25), (40, 26), (41, 27), (42, 28), (43, 29), (44, 30), (46, 31), (47, 32), (48, 33), (50, 34), (51, 35), (53, 36), (54, 37), (57, 38), (58, 39), (59, 40), (61, 41), (62, 42), (63, 43), (64, 44), (65, 45), (67, 46), (68, 47), (69, 48), (70, 49), (71, 50)]
def mArr : List (Nat × Nat × Nat) := [(1, 1, 2000), (2, 1, 2000), (3, 0, 403), (4, 0, 403), (5, 0, 403), (6, 4, 403), (7, 4, 23), (8, 4, 18), (9, 0, 18), (10, 0, 2), (11, 0, 2), (12, 0, 20), (13, 0, 20), (14, 0, 20), (15, 0, 2), (16, 0, 12), (17, 0, 12), (18, 0, 12), (19, 0, 2), (20, 0, 10), (21, 0, 2), (22, 0, 2), (23, 0, 2), (24, 0, 8), (25, 0, 8), (26, 2, 260), (27, 0, 260), (28, 0, 260), (29, 0, 260), (30, 0, 260), (31, 0, 840), (32, 0, 840), (33, 0, 64), (34, 0, 9), (35, 0, 400), (36, 0, 48), (37, 0, 48), (38, 0, 6), (39, 2, 6), (40, 0, 12), (41, 0, 1920), (42, 0, 6), (43, 0, 7), (44, 0, 896), (45, 0, 49), (46, 0, 20), (47, 0, 20), (48, 2, 20), (49, 2, 3), (50, 0, 144)]
def isM (h : Nat → Option zSh) (b : Nat) : Prop := zt h b = 30 ∧ (∀ q ∈ mOff, zr h b q.1 = some (b + q.2)) ∧ ∀ q ∈ mArr, zt h (b + q.1) = q.2.1 ∧ zn h (b + q.1) = q.2.2
theorem isM.r1 {h : Nat → Option zSh} {b : Nat} (hM : isM h b) : zr h b 1 = some (b + 1) := hM.2.1 (1, 1) (by decide)
theorem isM.t1 {h : Nat → Option zSh} {b : Nat} (hM : isM h b) : zt h (b + 1) = 1 := (hM.2.2 (1, 1, 2000) (by decide)).1
theorem isM.n1 {h : Nat → Option zSh} {b : Nat} (hM : isM h b) : zn h (b + 1) = 2000 := (hM.2.2 (1, 1, 2000) (by decide)).2
theorem isM.r3 {h : Nat → Option zSh} {b : Nat} (hM : isM h b) : zr h b 3 = some (b + 2) := hM.2.1 (3, 2) (by decide)
theorem isM.t3 {h : Nat → Option zSh} {b : Nat} (hM : isM h b) : zt h (b + 2) = 1 := (hM.2.2 (2, 1, 2000) (by decide)).1
theorem isM.n3 {h : Nat → Option zSh} {b : Nat} (hM : isM h b) : zn h (b + 2) = 2000 := (hM.2.2 (2, 1, 2000) (by decide)).2
theorem isM.r5 {h : Nat → Option zSh} {b : Nat} (hM : isM h b) : zr h b 5 = some (b + 3) := hM.2.1 (5, 3) (by decide)
theorem isM.t5 {h : Nat → Option zSh} {b : Nat} (hM : isM h b) : zt h (b + 3) = 0 := (hM.2.2 (3, 0, 403) (by decide)).1
theorem isM.n5 {h : Nat → Option zSh} {b : Nat} (hM : isM h b) : zn h (b + 3) = 403 := (hM.2.2 (3, 0, 403) (by decide)).2
theorem isM.r6 {h : Nat → Option zSh} {b : Nat} (hM : isM h b) : zr h b 6 = some (b + 4) := hM.2.1 (6, 4) (by decide)
theorem isM.t6 {h : Nat → Option zSh} {b : Nat} (hM : isM h b) : zt h (b + 4) = 0 := (hM.2.2 (4, 0, 403) (by decide)).1
theorem isM.n6 {h : Nat → Option zSh} {b : Nat} (hM : isM h b) : zn h (b + 4) = 403 := (hM.2.2 (4, 0, 403) (by decide)).2
theorem isM.r7 {h : Nat → Option zSh} {b : Nat} (hM : isM h b) : zr h b 7 = some (b + 5) := hM.2.1 (7, 5) (by decide)
theorem isM.t7 {h : Nat → Option zSh} {b : Nat} (hM : isM h b) : zt h (b + 5) = 0 := (hM.2.2 (5, 0, 403) (by decide)).1
theorem isM.n7 {h : Nat → Option zSh} {b : Nat} (hM : isM h b) : zn h (b + 5) = 403 := (hM.2.2 (5, 0, 403) (by decide)).2
theorem isM.r8 {h : Nat → Option zSh} {b : Nat} (hM : isM h b) : zr h b 8 = some (b + 6) := hM.2.1 (8, 6) (by decide)
theorem isM.t8 {h : Nat → Option zSh} {b : Nat} (hM : isM h b) : zt h (b + 6) = 4 := (hM.2.2 (6, 4, 403) (by decide)).1
theorem isM.n8 {h : Nat → Option zSh} {b : Nat} (hM : isM h b) : zn h (b + 6) = 403 := (hM.2.2 (6, 4, 403) (by decide)).2
theorem isM.r9 {h : Nat → Option zSh} {b : Nat} (hM : isM h b) : zr h b 9 = some (b + 7) := hM.2.1 (9, 7) (by decide)
theorem isM.t9 {h : Nat → Option zSh} {b : Nat} (hM : isM h b) : zt h (b + 7) = 4 := (hM.2.2 (7, 4, 23) (by decide)).1
theorem isM.n9 {h : Nat → Option zSh} {b : Nat} (hM : isM h b) : zn h (b + 7) = 23 := (hM.2.2 (7, 4, 23) (by decide)).2
theorem isM.r21 {h : Nat → Option zSh} {b : Nat} (hM : isM h b) : zr h b 21 = some (b + 8) := hM.2.1 (21, 8) (by decide)
theorem isM.t21 {h : Nat → Option zSh} {b : Nat} (hM : isM h b) : zt h (b + 8) = 4 := (hM.2.2 (8, 4, 18) (by decide)).1
theorem isM.n21 {h : Nat → Option zSh} {b : Nat} (hM : isM h b) : zn h (b + 8) = 18 := (hM.2.2 (8, 4, 18) (by decide)).2
theorem isM.r22 {h : Nat → Option zSh} {b : Nat} (hM : isM h b) : zr h b 22 = some (b + 9) := hM.2.1 (22, 9) (by decide)
theorem isM.t22 {h : Nat → Option zSh} {b : Nat} (hM : isM h b) : zt h (b + 9) = 0 := (hM.2.2 (9, 0, 18) (by decide)).1
theorem isM.n22 {h : Nat → Option zSh} {b : Nat} (hM : isM h b) : zn h (b + 9) = 18 := (hM.2.2 (9, 0, 18) (by decide)).2
theorem isM.r23 {h : Nat → Option zSh} {b : Nat} (hM : isM h b) : zr h b 23 = some (b + 10) := hM.2.1 (23, 10) (by decide)
theorem isM.t23 {h : Nat → Option zSh} {b : Nat} (hM : isM h b) : zt h (b + 10) = 0 := (hM.2.2 (10, 0, 2) (by decide)).1
theorem isM.n23 {h : Nat → Option zSh} {b : Nat} (hM : isM h b) : zn h (b + 10) = 2 := (hM.2.2 (10, 0, 2) (by decide)).2
theorem isM.r24 {h : Nat → Option zSh} {b : Nat} (hM : isM h b) : zr h b 24 = some (b + 11) := hM.2.1 (24, 11) (by decide)
theorem isM.t24 {h : Nat → Option zSh} {b : Nat} (hM : isM h b) : zt h (b + 11) = 0 := (hM.2.2 (11, 0, 2) (by decide)).1
theorem isM.n24 {h : Nat → Option zSh} {b : Nat} (hM : isM h b) : zn h (b + 11) = 2 := (hM.2.2 (11, 0, 2) (by decide)).2
theorem isM.r25 {h : Nat → Option zSh} {b : Nat} (hM : isM h b) : zr h b 25 = some (b + 12) := hM.2.1 (25, 12) (by decide)
theorem isM.t25 {h : Nat → Option zSh} {b : Nat} (hM : isM h b) : zt h (b + 12) = 0 := (hM.2.2 (12, 0, 20) (by decide)).1
theorem isM.n25 {h : Nat → Option zSh} {b : Nat} (hM : isM h b) : zn h (b + 12) = 20 := (hM.2.2 (12, 0, 20) (by decide)).2
theorem isM.r26 {h : Nat → Option zSh} {b : Nat} (hM : isM h b) : zr h b 26 = some (b + 13) := hM.2.1 (26, 13) (by decide)
theorem isM.t26 {h : Nat → Option zSh} {b : Nat} (hM : isM h b) : zt h (b + 13) = 0 := (hM.2.2 (13, 0, 20) (by decide)).1
theorem isM.n26 {h : Nat → Option zSh} {b : Nat} (hM : isM h b) : zn h (b + 13) = 20 := (hM.2.2 (13, 0, 20) (by decide)).2
theorem isM.r27 {h : Nat → Option zSh} {b : Nat} (hM : isM h b) : zr h b 27 = some (b + 14) := hM.2.1 (27, 14) (by decide)
theorem isM.t27 {h : Nat → Option zSh} {b : Nat} (hM : isM h b) : zt h (b + 14) = 0 := (hM.2.2 (14, 0, 20) (by decide)).1
theorem isM.n27 {h : Nat → Option zSh} {b : Nat} (hM : isM h b) : zn h (b + 14) = 20 := (hM.2.2 (14, 0, 20) (by decide)).2
theorem isM.r28 {h : Nat → Option zSh} {b : Nat} (hM : isM h b) : zr h b 28 = some (b + 15) := hM.2.1 (28, 15) (by decide)
theorem isM.t28 {h : Nat → Option zSh} {b : Nat} (hM : isM h b) : zt h (b + 15) = 0 := (hM.2.2 (15, 0, 2) (by decide)).1
theorem isM.n28 {h : Nat → Option zSh} {b : Nat} (hM : isM h b) : zn h (b + 15) = 2 := (hM.2.2 (15, 0, 2) (by decide)).2
theorem isM.r29 {h : Nat → Option zSh} {b : Nat} (hM : isM h b) : zr h b 29 = some (b + 16) := hM.2.1 (29, 16) (by decide)
theorem isM.t29 {h : Nat → Option zSh} {b : Nat} (hM : isM h b) : zt h (b + 16) = 0 := (hM.2.2 (16, 0, 12) (by decide)).1
theorem isM.n29 {h : Nat → Option zSh} {b : Nat} (hM : isM h b) : zn h (b + 16) = 12 := (hM.2.2 (16, 0, 12) (by decide)).2
theorem isM.r30 {h : Nat → Option zSh} {b : Nat} (hM : isM h b) : zr h b 30 = some (b + 17) := hM.2.1 (30, 17) (by decide)
theorem isM.t30 {h : Nat → Option zSh} {b : Nat} (hM : isM h b) : zt h (b + 17) = 0 := (hM.2.2 (17, 0, 12) (by decide)).1
theorem isM.n30 {h : Nat → Option zSh} {b : Nat} (hM : isM h b) : zn h (b + 17) = 12 := (hM.2.2 (17, 0, 12) (by decide)).2
theorem isM.r31 {h : Nat → Option zSh} {b : Nat} (hM : isM h b) : zr h b 31 = some (b + 18) := hM.2.1 (31, 18) (by decide)
theorem isM.t31 {h : Nat → Option zSh} {b : Nat} (hM : isM h b) : zt h (b + 18) = 0 := (hM.2.2 (18, 0, 12) (by decide)).1
theorem isM.n31 {h : Nat → Option zSh} {b : Nat} (hM : isM h b) : zn h (b + 18) = 12 := (hM.2.2 (18, 0, 12) (by decide)).2
theorem isM.r32 {h : Nat → Option zSh} {b : Nat} (hM : isM h b) : zr h b 32 = some (b + 19) := hM.2.1 (32, 19) (by decide)
theorem isM.t32 {h : Nat → Option zSh} {b : Nat} (hM : isM h b) : zt h (b + 19) = 0 := (hM.2.2 (19, 0, 2) (by decide)).1
theorem isM.n32 {h : Nat → Option zSh} {b : Nat} (hM : isM h b) : zn h (b + 19) = 2 := (hM.2.2 (19, 0, 2) (by decide)).2
theorem isM.r33 {h : Nat → Option zSh} {b : Nat} (hM : isM h b) : zr h b 33 = some (b + 20) := hM.2.1 (33, 20) (by decide)
theorem isM.t33 {h : Nat → Option zSh} {b : Nat} (hM : isM h b) : zt h (b + 20) = 0 := (hM.2.2 (20, 0, 10) (by decide)).1
theorem isM.n33 {h : Nat → Option zSh} {b : Nat} (hM : isM h b) : zn h (b + 20) = 10 := (hM.2.2 (20, 0, 10) (by decide)).2
theorem isM.r34 {h : Nat → Option zSh} {b : Nat} (hM : isM h b) : zr h b 34 = some (b + 21) := hM.2.1 (34, 21) (by decide)
theorem isM.t34 {h : Nat → Option zSh} {b : Nat} (hM : isM h b) : zt h (b + 21) = 0 := (hM.2.2 (21, 0, 2) (by decide)).1
theorem isM.n34 {h : Nat → Option zSh} {b : Nat} (hM : isM h b) : zn h (b + 21) = 2 := (hM.2.2 (21, 0, 2) (by decide)).2
theorem isM.r35 {h : Nat → Option zSh} {b : Nat} (hM : isM h b) : zr h b 35 = some (b + 22) := hM.2.1 (35, 22) (by decide)
theorem isM.t35 {h : Nat → Option zSh} {b : Nat} (hM : isM h b) : zt h (b + 22) = 0 := (hM.2.2 (22, 0, 2) (by decide)).1
theorem isM.n35 {h : Nat → Option zSh} {b : Nat} (hM : isM h b) : zn h (b + 22) = 2 := (hM.2.2 (22, 0, 2) (by decide)).2
theorem isM.r36 {h : Nat → Option zSh} {b : Nat} (hM : isM h b) : zr h b 36 = some (b + 23) := hM.2.1 (36, 23) (by decide)
theorem isM.t36 {h : Nat → Option zSh} {b : Nat} (hM : isM h b) : zt h (b + 23) = 0 := (hM.2.2 (23, 0, 2) (by decide)).1
theorem isM.n36 {h : Nat → Option zSh} {b : Nat} (hM : isM h b) : zn h (b + 23) = 2 := (hM.2.2 (23, 0, 2) (by decide)).2
theorem isM.r37 {h : Nat → Option zSh} {b : Nat} (hM : isM h b) : zr h b 37 = some (b + 24) := hM.2.1 (37, 24) (by decide)
theorem isM.t37 {h : Nat → Option zSh} {b : Nat} (hM : isM h b) : zt h (b + 24) = 0 := (hM.2.2 (24, 0, 8) (by decide)).1
theorem isM.n37 {h : Nat → Option zSh} {b : Nat} (hM : isM h b) : zn h (b + 24) = 8 := (hM.2.2 (24, 0, 8) (by decide)).2
theorem isM.r38 {h : Nat → Option zSh} {b : Nat} (hM : isM h b) : zr h b 38 = some (b + 25) := hM.2.1 (38, 25) (by decide)
theorem isM.t38 {h : Nat → Option zSh} {b : Nat} (hM : isM h b) : zt h (b + 25) = 0 := (hM.2.2 (25, 0, 8) (by decide)).1
theorem isM.n38 {h : Nat → Option zSh} {b : Nat} (hM : isM h b) : zn h (b + 25) = 8 := (hM.2.2 (25, 0, 8) (by decide)).2
theorem isM.r40 {h : Nat → Option zSh} {b : Nat} (hM : isM h b) : zr h b 40 = some (b + 26) := hM.2.1 (40, 26) (by decide)
theorem isM.t40 {h : Nat → Option zSh} {b : Nat} (hM : isM h b) : zt h (b + 26) = 2 := (hM.2.2 (26, 2, 260) (by decide)).1
theorem isM.n40 {h : Nat → Option zSh} {b : Nat} (hM : isM h b) : zn h (b + 26) = 260 := (hM.2.2 (26, 2, 260) (by decide)).2
theorem isM.r41 {h : Nat → Option zSh} {b : Nat} (hM : isM h b) : zr h b 41 = some (b + 27) := hM.2.1 (41, 27) (by decide)
theorem isM.t41 {h : Nat → Option zSh} {b : Nat} (hM : isM h b) : zt h (b + 27) = 0 := (hM.2.2 (27, 0, 260) (by decide)).1
theorem isM.n41 {h : Nat → Option zSh} {b : Nat} (hM : isM h b) : zn h (b + 27) = 260 := (hM.2.2 (27, 0, 260) (by decide)).2
theorem isM.r42 {h : Nat → Option zSh} {b : Nat} (hM : isM h b) : zr h b 42 = some (b + 28) := hM.2.1 (42, 28) (by decide)
theorem isM.t42 {h : Nat → Option zSh} {b : Nat} (hM : isM h b) : zt h (b + 28) = 0 := (hM.2.2 (28, 0, 260) (by decide)).1
theorem isM.n42 {h : Nat → Option zSh} {b : Nat} (hM : isM h b) : zn h (b + 28) = 260 := (hM.2.2 (28, 0, 260) (by decide)).2
theorem isM.r43 {h : Nat → Option zSh} {b : Nat} (hM : isM h b) : zr h b 43 = some (b + 29) := hM.2.1 (43, 29) (by decide)
theorem isM.t43 {h : Nat → Option zSh} {b : Nat} (hM : isM h b) : zt h (b + 29) = 0 := (hM.2.2 (29, 0, 260) (by decide)).1
theorem isM.n43 {h : Nat → Option zSh} {b : Nat} (hM : isM h b) : zn h (b + 29) = 260 := (hM.2.2 (29, 0, 260) (by decide)).2
theorem isM.r44 {h : Nat → Option zSh} {b : Nat} (hM : isM h b) : zr h b 44 = some (b + 30) := hM.2.1 (44, 30) (by decide)
theorem isM.t44 {h : Nat → Option zSh} {b : Nat} (hM : isM h b) : zt h (b + 30) = 0 := (hM.2.2 (30, 0, 260) (by decide)).1
theorem isM.n44 {h : Nat → Option zSh} {b : Nat} (hM : isM h b) : zn h (b + 30) = 260 := (hM.2.2 (30, 0, 260) (by decide)).2
theorem isM.r46 {h : Nat → Option zSh} {b : Nat} (hM : isM h b) : zr h b 46 = some (b + 31) := hM.2.1 (46, 31) (by decide)
theorem isM.t46 {h : Nat → Option zSh} {b : Nat} (hM : isM h b) : zt h (b + 31) = 0 := (hM.2.2 (31, 0, 840) (by decide)).1
theorem isM.n46 {h : Nat → Option zSh} {b : Nat} (hM : isM h b) : zn h (b + 31) = 840 := (hM.2.2 (31, 0, 840) (by decide)).2
theorem isM.r47 {h : Nat → Option zSh} {b : Nat} (hM : isM h b) : zr h b 47 = some (b + 32) := hM.2.1 (47, 32) (by decide)
theorem isM.t47 {h : Nat → Option zSh} {b : Nat} (hM : isM h b) : zt h (b + 32) = 0 := (hM.2.2 (32, 0, 840) (by decide)).1
theorem isM.n47 {h : Nat → Option zSh} {b : Nat} (hM : isM h b) : zn h (b + 32) = 840 := (hM.2.2 (32, 0, 840) (by decide)).2
theorem isM.r48 {h : Nat → Option zSh} {b : Nat} (hM : isM h b) : zr h b 48 = some (b + 33) := hM.2.1 (48, 33) (by decide)
theorem isM.t48 {h : Nat → Option zSh} {b : Nat} (hM : isM h b) : zt h (b + 33) = 0 := (hM.2.2 (33, 0, 64) (by decide)).1
theorem isM.n48 {h : Nat → Option zSh} {b : Nat} (hM : isM h b) : zn h (b + 33) = 64 := (hM.2.2 (33, 0, 64) (by decide)).2
theorem isM.r50 {h : Nat → Option zSh} {b : Nat} (hM : isM h b) : zr h b 50 = some (b + 34) := hM.2.1 (50, 34) (by decide)
theorem isM.t50 {h : Nat → Option zSh} {b : Nat} (hM : isM h b) : zt h (b + 34) = 0 := (hM.2.2 (34, 0, 9) (by decide)).1
theorem isM.n50 {h : Nat → Option zSh} {b : Nat} (hM : isM h b) : zn h (b + 34) = 9 := (hM.2.2 (34, 0, 9) (by decide)).2
theorem isM.r51 {h : Nat → Option zSh} {b : Nat} (hM : isM h b) : zr h b 51 = some (b + 35) := hM.2.1 (51, 35) (by decide)
theorem isM.t51 {h : Nat → Option zSh} {b : Nat} (hM : isM h b) : zt h (b + 35) = 0 := (hM.2.2 (35, 0, 400) (by decide)).1
theorem isM.n51 {h : Nat → Option zSh} {b : Nat} (hM : isM h b) : zn h (b + 35) = 400 := (hM.2.2 (35, 0, 400) (by decide)).2
theorem isM.r53 {h : Nat → Option zSh} {b : Nat} (hM : isM h b) : zr h b 53 = some (b + 36) := hM.2.1 (53, 36) (by decide)
theorem isM.t53 {h : Nat → Option zSh} {b : Nat} (hM : isM h b) : zt h (b + 36) = 0 := (hM.2.2 (36, 0, 48) (by decide)).1
theorem isM.n53 {h : Nat → Option zSh} {b : Nat} (hM : isM h b) : zn h (b + 36) = 48 := (hM.2.2 (36, 0, 48) (by decide)).2
theorem isM.r54 {h : Nat → Option zSh} {b : Nat} (hM : isM h b) : zr h b 54 = some (b + 37) := hM.2.1 (54, 37) (by decide)
theorem isM.t54 {h : Nat → Option zSh} {b : Nat} (hM : isM h b) : zt h (b + 37) = 0 := (hM.2.2 (37, 0, 48) (by decide)).1
theorem isM.n54 {h : Nat → Option zSh} {b : Nat} (hM : isM h b) : zn h (b + 37) = 48 := (hM.2.2 (37, 0, 48) (by decide)).2
theorem isM.r57 {h : Nat → Option zSh} {b : Nat} (hM : isM h b) : zr h b 57 = some (b + 38) := hM.2.1 (57, 38) (by decide)
theorem isM.t57 {h : Nat → Option zSh} {b : Nat} (hM : isM h b) : zt h (b + 38) = 0 := (hM.2.2 (38, 0, 6) (by decide)).1
theorem isM.n57 {h : Nat → Option zSh} {b : Nat} (hM : isM h b) : zn h (b + 38) = 6 := (hM.2.2 (38, 0, 6) (by decide)).2
theorem isM.r58 {h : Nat → Option zSh} {b : Nat} (hM : isM h b) : zr h b 58 = some (b + 39) := hM.2.1 (58, 39) (by decide)
theorem isM.t58 {h : Nat → Option zSh} {b : Nat} (hM : isM h b) : zt h (b + 39) = 2 := (hM.2.2 (39, 2, 6) (by decide)).1
theorem isM.n58 {h : Nat → Option zSh} {b : Nat} (hM : isM h b) : zn h (b + 39) = 6 := (hM.2.2 (39, 2, 6) (by decide)).2
theorem isM.r59 {h : Nat → Option zSh} {b : Nat} (hM : isM h b) : zr h b 59 = some (b + 40) := hM.2.1 (59, 40) (by decide)
theorem isM.t59 {h : Nat → Option zSh} {b : Nat} (hM : isM h b) : zt h (b + 40) = 0 := (hM.2.2 (40, 0, 12) (by decide)).1
theorem isM.n59 {h : Nat → Option zSh} {b : Nat} (hM : isM h b) : zn h (b + 40) = 12 := (hM.2.2 (40, 0, 12) (by decide)).2
theorem isM.r61 {h : Nat → Option zSh} {b : Nat} (hM : isM h b) : zr h b 61 = some (b + 41) := hM.2.1 (61, 41) (by decide)
theorem isM.t61 {h : Nat → Option zSh} {b : Nat} (hM : isM h b) : zt h (b + 41) = 0 := (hM.2.2 (41, 0, 1920) (by decide)).1
theorem isM.n61 {h : Nat → Option zSh} {b : Nat} (hM : isM h b) : zn h (b + 41) = 1920 := (hM.2.2 (41, 0, 1920) (by decide)).2
theorem isM.r62 {h : Nat → Option zSh} {b : Nat} (hM : isM h b) : zr h b 62 = some (b + 42) := hM.2.1 (62, 42) (by decide)
theorem isM.t62 {h : Nat → Option zSh} {b : Nat} (hM : isM h b) : zt h (b + 42) = 0 := (hM.2.2 (42, 0, 6) (by decide)).1
theorem isM.n62 {h : Nat → Option zSh} {b : Nat} (hM : isM h b) : zn h (b + 42) = 6 := (hM.2.2 (42, 0, 6) (by decide)).2
theorem isM.r63 {h : Nat → Option zSh} {b : Nat} (hM : isM h b) : zr h b 63 = some (b + 43) := hM.2.1 (63, 43) (by decide)
theorem isM.t63 {h : Nat → Option zSh} {b : Nat} (hM : isM h b) : zt h (b + 43) = 0 := (hM.2.2 (43, 0, 7) (by decide)).1
theorem isM.n63 {h : Nat → Option zSh} {b : Nat} (hM : isM h b) : zn h (b + 43) = 7 := (hM.2.2 (43, 0, 7) (by decide)).2
theorem isM.r64 {h : Nat → Option zSh} {b : Nat} (hM : isM h b) : zr h b 64 = some (b + 44) := hM.2.1 (64, 44) (by decide)
theorem isM.t64 {h : Nat → Option zSh} {b : Nat} (hM : isM h b) : zt h (b + 44) = 0 := (hM.2.2 (44, 0, 896) (by decide)).1
theorem isM.n64 {h : Nat → Option zSh} {b : Nat} (hM : isM h b) : zn h (b + 44) = 896 := (hM.2.2 (44, 0, 896) (by decide)).2
theorem isM.r65 {h : Nat → Option zSh} {b : Nat} (hM : isM h b) : zr h b 65 = some (b + 45) := hM.2.1 (65, 45) (by decide)
theorem isM.t65 {h : Nat → Option zSh} {b : Nat} (hM : isM h b) : zt h (b + 45) = 0 := (hM.2.2 (45, 0, 49) (by decide)).1
theorem isM.n65 {h : Nat → Option zSh} {b : Nat} (hM : isM h b) : zn h (b + 45) = 49 := (hM.2.2 (45, 0, 49) (by decide)).2
theorem isM.r67 {h : Nat → Option zSh} {b : Nat} (hM : isM h b) : zr h b 67 = some (b + 46) := hM.2.1 (67, 46) (by decide)
theorem isM.t67 {h : Nat → Option zSh} {b : Nat} (hM : isM h b) : zt h (b + 46) = 0 := (hM.2.2 (46, 0, 20) (by decide)).1
theorem isM.n67 {h : Nat → Option zSh} {b : Nat} (hM : isM h b) : zn h (b + 46) = 20 := (hM.2.2 (46, 0, 20) (by decide)).2
theorem isM.r68 {h : Nat → Option zSh} {b : Nat} (hM : isM h b) : zr h b 68 = some (b + 47) := hM.2.1 (68, 47) (by decide)
theorem isM.t68 {h : Nat → Option zSh} {b : Nat} (hM : isM h b) : zt h (b + 47) = 0 := (hM.2.2 (47, 0, 20) (by decide)).1
theorem isM.n68 {h : Nat → Option zSh} {b : Nat} (hM : isM h b) : zn h (b + 47) = 20 := (hM.2.2 (47, 0, 20) (by decide)).2
theorem isM.r69 {h : Nat → Option zSh} {b : Nat} (hM : isM h b) : zr h b 69 = some (b + 48) := hM.2.1 (69, 48) (by decide)
theorem isM.t69 {h : Nat → Option zSh} {b : Nat} (hM : isM h b) : zt h (b + 48) = 2 := (hM.2.2 (48, 2, 20) (by decide)).1
theorem isM.n69 {h : Nat → Option zSh} {b : Nat} (hM : isM h b) : zn h (b + 48) = 20 := (hM.2.2 (48, 2, 20) (by decide)).2
theorem isM.r70 {h : Nat → Option zSh} {b : Nat} (hM : isM h b) : zr h b 70 = some (b + 49) := hM.2.1 (70, 49) (by decide)
theorem isM.t70 {h : Nat → Option zSh} {b : Nat} (hM : isM h b) : zt h (b + 49) = 2 := (hM.2.2 (49, 2, 3) (by decide)).1
theorem isM.n70 {h : Nat → Option zSh} {b : Nat} (hM : isM h b) : zn h (b + 49) = 3 := (hM.2.2 (49, 2, 3) (by decide)).2
theorem isM.r71 {h : Nat → Option zSh} {b : Nat} (hM : isM h b) : zr h b 71 = some (b + 50) := hM.2.1 (71, 50) (by decide)
theorem isM.t71 {h : Nat → Option zSh} {b : Nat} (hM : isM h b) : zt h (b + 50) = 0 := (hM.2.2 (50, 0, 144) (by decide)).1
theorem isM.n71 {h : Nat → Option zSh} {b : Nat} (hM : isM h b) : zn h (b + 50) = 144 := (hM.2.2 (50, 0, 144) (by decide)).2
theorem zC.of0 {V : zV} {Y : zY} {av : List Value} {X : zX} {k n d : Nat} {K : Option Value → zX → Nat → Nat → Prop} {KX : Nat → zX → Nat → Nat → Prop} {Q : Option Value → zX → Prop} (hM : zM V.1 V.2.1 d Y av X 0 0 Q (fun _ _ => False)) (hd : d + 1 ≤ V.2.2.1) (hk : k ≤ V.2.2.2.1) (hn : n ≤ V.2.2.2.2.1) (h1 : ∀ r X', Q r X' → K r X' k n) : zC V Y av X k n K KX :=
  ⟨d, 0, 0, Q, _, hM, hd, hk, hn, h1, fun _ _ h => h.elim⟩
theorem z_in {n N : Nat} (hn : n < 2 ^ 31) (hN : N < 2 ^ 31) : vp_in (nI n) N ↔ n < N := by
  rw [vp_in_iff, nI_toInt hn]; omega
theorem va_rf_s (a : Nat) : va_rf (some a) = .ref a := rfl
theorem zM.go {l : Launch} {E : zE} {d mc ms : Nat} {Y : zY} {av : List Value} {X : zX} {Q : Option Value → zX → Prop} {QX : Nat → zX → Prop} {ls : List (Option Value)} (hh : Y.2.2.2.2 = []) (hy : plainName Y.1.cls = true) (hn : (lg_sl av).length ≤ Y.2.2.1) (hls : zent av Y.2.2.1 = ls)
    (H : ∀ V : zV, V.1 = l → V.2.1 = E → V.2.2.1 = d → V.2.2.2.1 = mc → V.2.2.2.2.1 = ms → (∀ r X, Q r X → V.2.2.2.2.2.1 r X) → (∀ q X, QX q X → V.2.2.2.2.2.2 q X) → zW V Y 0 ls [] X 0 0) : zM l E d Y av X mc ms Q QX :=
  zM.ofW hh hy hn hls (H _ rfl rfl rfl rfl rfl (fun _ _ h => h) (fun _ _ h => h))
theorem z_down {P : Nat → Prop} {N : Nat} (h0 : P N) (hs : ∀ y, y < N → P (y + 1) → P y) : ∀ y, y ≤ N → P y := by
  have : ∀ m y, y + m = N → P y := by
    intro m
    induction m with
    | zero => intro y hy; have : y = N := by omega
              subst this; exact h0
    | succ m ih => intro y hy; exact hs y (by omega) (ih (y + 1) (by omega))
  intro y hy
  exact this (N - y) y (by omega)
theorem zu_same {α : Type} (S : Nat → Nat → α) (a k : Nat) (v : α) : zu S a k v a k = v := by simp [zu]
theorem zu_ix {α : Type} (S : Nat → Nat → α) {a k j : Nat} (v : α) (h : j ≠ k) : zu S a k v a j = S a j := by simp [zu, h]
theorem zu_rw {α : Type} (S : Nat → Nat → α) {a a2 k : Nat} (v : α) (h : a2 ≠ a) : zu S a k v a2 = S a2 := zu_ne S v h
/-- only the rows b + o (o in D) and b's own fields in F may differ -/
def zfr (D F : List Nat) (b : Nat) (S S' : Nat → Nat → Int32) : Prop := (∀ a, a ≠ b → (∀ o ∈ D, a ≠ b + o) → S' a = S a) ∧ ∀ j, j ∉ F → S' b j = S b j
theorem zfr.rf {D F : List Nat} {b : Nat} {S : Nat → Nat → Int32} : zfr D F b S S := ⟨fun _ _ _ => rfl, fun _ _ => rfl⟩
theorem zfr.row {D F : List Nat} {b o k : Nat} {v : Int32} {S S' : Nat → Nat → Int32} (h : zfr D F b S S') (ho : o ∈ D) (h0 : o ≠ 0) : zfr D F b S (zu S' (b + o) k v) := by
  refine ⟨fun a h1 h2 => ?_, fun j hj => ?_⟩
  · rw [zu_rw _ _ (h2 o ho)]; exact h.1 a h1 h2
  · rw [zu_rw _ _ (by omega)]; exact h.2 j hj
theorem zfr.fld {D F : List Nat} {b j : Nat} {v : Int32} {S S' : Nat → Nat → Int32} (h : zfr D F b S S') (hj : j ∈ F) : zfr D F b S (zu S' b j v) := by
  refine ⟨fun a h1 h2 => ?_, fun i hi => ?_⟩
  · rw [zu_rw _ _ h1]; exact h.1 a h1 h2
  · have hne : i ≠ j := fun e => hi (by rw [e]; exact hj)
    rw [zu_ix _ _ hne]; exact h.2 i hi
theorem zfr.at {D F : List Nat} {b o : Nat} {S S' : Nat → Nat → Int32} (h : zfr D F b S S') (ho : D.all (fun x => !(x == o)) = true) (h0 : (o == 0) = false) : S' (b + o) = S (b + o) := by
  have h0' : o ≠ 0 := by simpa using h0
  refine h.1 (b + o) (by omega) (fun x hx => ?_)
  have := List.all_eq_true.mp ho x hx
  have hne : x ≠ o := by simpa using this
  omega
theorem zfr.f {D F : List Nat} {b j : Nat} {S S' : Nat → Nat → Int32} (h : zfr D F b S S') (hj : F.all (fun x => !(x == j)) = true) : S' b j = S b j := by
  refine h.2 j (fun hx => ?_)
  have := List.all_eq_true.mp hj j hx
  simp at this
theorem zfr.tr {D F D' F' D2 F2 : List Nat} {b : Nat} {S S' S'' : Nat → Nat → Int32} (h : zfr D F b S S') (h' : zfr D' F' b S' S'') (hD : D.all (fun x => D2.contains x) = true) (hF : F.all (fun x => F2.contains x) = true) (hD' : D'.all (fun x => D2.contains x) = true) (hF' : F'.all (fun x => F2.contains x) = true) : zfr D2 F2 b S S'' := by
  have key : ∀ {A B : List Nat}, A.all (fun x => B.contains x) = true → ∀ x ∈ A, x ∈ B := fun {A B} hA x hx => by
    have := List.all_eq_true.mp hA x hx
    simpa using this
  refine ⟨fun a h1 h2 => ?_, fun j hj => ?_⟩
  · rw [h'.1 a h1 (fun o ho => h2 o (key hD' o ho)), h.1 a h1 (fun o ho => h2 o (key hD o ho))]
  · rw [h'.2 j (fun hx => hj (key hF' j hx)), h.2 j (fun hx => hj (key hF j hx))]
/-- a number as an index below n -/
def okI (c : Int32) (n : Nat) : Bool := decide (0 ≤ c.toInt ∧ c.toInt < n)
theorem okI_iff {c : Int32} {n : Nat} (hn : n < 2 ^ 31) : okI c n = true ↔ ∃ j, j < n ∧ c = nI j := by
  unfold okI
  rw [decide_eq_true_iff]
  constructor
  · intro h
    exact vp_in_of (vp_in_iff.mpr h) hn
  · rintro ⟨j, hj, rfl⟩
    rw [nI_toInt (by omega)]; omega
theorem okI_nI {j n : Nat} (hj : j < 2 ^ 31) : okI (nI j) n = decide (j < n) := by
  unfold okI
  rw [nI_toInt hj]
  by_cases h : j < n <;> simp [h]
theorem okI_cond {c : Int32} {n : Nat} (hn : n < 2 ^ 30) : (nI 0 ≤ c ∧ c ≤ nI n - nI 1) ↔ okI c n = true := by
  unfold okI
  rw [decide_eq_true_iff, Int32.le_iff_toInt_le, Int32.le_iff_toInt_le, pk_sub_toInt (by omega) (by omega), nI_toInt (by omega)]
  omega
theorem zi_in {n N : Nat} (h : n < N) (hN : N < 2 ^ 31) : vp_in (nI n) N = True := eq_true (vp_in_nI h hN)
theorem zi_le_t {a b : Nat} (h : a ≤ b) (hb : b < 2 ^ 31) : (nI a ≤ nI b) = True := eq_true (nI_le h hb)
theorem zi_le_f {a b : Nat} (h : b < a) (ha : a < 2 ^ 31) : (nI a ≤ nI b) = False := eq_false (nI_ge h ha)
theorem zi_lt_t {a b : Nat} (h : a < b) (hb : b < 2 ^ 31) : (nI a < nI b) = True := eq_true (nI_lt h hb)
theorem zi_lt_f {a b : Nat} (h : b ≤ a) (ha : a < 2 ^ 31) : (nI a < nI b) = False := eq_false (nI_nlt h ha)
theorem zi_eq_t {a b : Nat} (h : a = b) : (nI a = nI b) = True := eq_true (by rw [h])
theorem zi_eq_f {a b : Nat} (h : a ≠ b) (ha : a < 2 ^ 31) (hb : b < 2 ^ 31) : (nI a = nI b) = False := eq_false (fun e => h ((nI_eq ha hb).mp e))
theorem zi_0 : (0 : Int32) = nI 0 := rfl
def b01 (c : Bool) : Int32 := if c = true then nI 1 else nI 0
theorem b01_t : b01 true = nI 1 := rfl
theorem b01_f : b01 false = nI 0 := rfl
theorem b01_ok (c : Bool) : (b01 c = nI 0 ∨ b01 c = nI 1) = True := by cases c <;> simp [b01]
theorem b01_eq0 (c : Bool) : (b01 c = nI 0) = (c = false) := by cases c <;> simp [b01] <;> decide
theorem b01_eq1 (c : Bool) : (b01 c = nI 1) = (c = true) := by cases c <;> simp [b01] <;> decide
theorem bool_ft (c : Bool) : (c = false ∨ c = true) = True := by cases c <;> simp
theorem zi_ne0 {n : Nat} (h0 : 0 < n) (h : n < 2 ^ 31) : (nI n = 0) = False := eq_false (nI_ne0 h0 h)
theorem zi_sub {a b : Nat} (h : b ≤ a) : nI a - nI b = nI (a - b) := pk_sub h
theorem zi_m1 {n : Nat} (h : 0 < n) : nI n + (-1) = nI (n - 1) := by
  obtain ⟨m, rfl⟩ : ∃ m, n = m + 1 := ⟨n - 1, by omega⟩
  rw [pk_m1]; rfl
theorem vp_b0 : vp_nar .boolean (nI 0) = nI 0 := rfl
theorem vp_b1 : vp_nar .boolean (nI 1) = nI 1 := rfl
theorem vp_b01 (c : Bool) : vp_nar .boolean (b01 c) = b01 c := by cases c <;> rfl
