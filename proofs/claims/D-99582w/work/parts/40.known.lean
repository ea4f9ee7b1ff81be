/-! SOUNDNESS: what is known at the start -/
set_option maxRecDepth 100000
set_option maxHeartbeats 4000000
def bk_tms : List (String × Nat) := [("BackRescue$Reader", 68), ("BackRescueModel", 86), ("BackRescue$Reader", 100), ("BackRescue$Reader", 106), ("BackRescue$Reader", 126), ("BackRescue$Reader", 130), ("BackRescue$Reader", 134), ("BackRescue$Reader", 138), ("BackRescue$Reader", 142), ("BackRescue$Reader", 146), ("BackRescue$Reader", 165), ("BackRescue$Reader", 169), ("BackRescue$Reader", 174), ("BackRescue$Reader", 178), ("BackRescue$Reader", 249), ("BackRescue$Reader", 264), ("BackRescue$Reader", 266), ("BackRescue$Reader", 268), ("BackRescue$Reader", 207), ("BackRescue$Reader", 217), ("BackRescue$Reader", 219), ("BackRescue$Reader", 246), ("BackRescue$Reader", 248)]
def bk_tm (i : Nat) : Term := Term.string (bk_tms.getD i ("", 0)).1 (bk_tms.getD i ("", 0)).2
def bk_gn : List Cond := flatC (Jvm.Cond.and given_1 narrow_1)
theorem bk_g1 : ∀ i, i < 23 → Cond.exactly (bk_tm i) "java/lang/String" ∈ bk_gn := by decide +kernel
theorem bk_g2 : ∀ i, i < 23 → Cond.eq (.field (bk_tm i) "java/lang/String" "coder" "B") (.int 0) ∈ bk_gn := by decide +kernel
theorem bk_g3 : ∀ i, i < 23 → Cond.arrayOf (.field (bk_tm i) "java/lang/String" "value" "[B") .byte ∈ bk_gn := by decide +kernel
theorem bk_g4 : ∀ i, i < 23 → Cond.eq (.length (.field (bk_tm i) "java/lang/String" "value" "[B")) (.int (Int32.ofNat (bk_lns.getD i 0))) ∈ bk_gn := by decide +kernel
theorem bk_g7 : ∀ q ∈ bk_ncs, Cond.not (.castable q.1 q.2) ∈ bk_gn := by decide +kernel
theorem bk_g8 : Cond.eq (.static "java/lang/String" "COMPACT_STRINGS" "Z") (.int 1) ∈ bk_gn ∧ Cond.isRef (.static "jdk/internal/util/Preconditions" "SIOOBE_FORMATTER" "Ljava/util/function/BiFunction;") ∈ bk_gn ∧ Cond.isRef (.static Bundle.tN "UNASSIGNED_STACK" Bundle.steD) ∈ bk_gn ∧ Cond.isRef (.static Bundle.tN "SUPPRESSED_SENTINEL" Bundle.listD) ∈ bk_gn ∧ Cond.eq (bk_tm 0) (.string "BackRescueModel" 124) ∈ bk_gn := by decide +kernel
/-- the k-th of the n conditions of a balanced tree -/
def bk_nth : Nat → Nat → Nat → Cond → Cond
  | f + 1, n, k, .and a b => bif Nat.ble n 1 then .and a b else bif Nat.blt k (n / 2) then bk_nth f (n / 2) k a else bk_nth f (n - n / 2) (k - n / 2) b
  | _, _, _, c => c
theorem bk_nth_of {args : Array Value} {s : State} : ∀ (f n k : Nat) (c : Cond), c.before args s = true → (bk_nth f n k c).before args s = true
  | 0, n, k, c, h => by unfold bk_nth; exact h
  | f + 1, n, k, c, h => by
    cases c with
    | and a b =>
      have h2 := h
      rw [Cond.before_and, Bool.and_eq_true] at h2
      show (bif Nat.ble n 1 then Cond.and a b else bif Nat.blt k (n / 2) then bk_nth f (n / 2) k a else bk_nth f (n - n / 2) (k - n / 2) b).before args s = true
      cases Nat.ble n 1 with
      | true => exact h
      | false =>
        cases Nat.blt k (n / 2) with
        | true => exact bk_nth_of f _ _ a h2.1
        | false => exact bk_nth_of f _ _ b h2.2
    | _ => exact h
def bk_of : List Nat := [133, 548, 149, 158, 169, 223, 254, 272, 291, 520, 183, 195, 208, 238, 311, 391, 415, 440, 370, 349, 329, 465, 492]
def bk_op : List Nat := [0, 654, 153, 163, 176, 227, 259, 277, 296, 523, 187, 199, 213, 242, 313, 395, 419, 443, 372, 352, 332, 469, 496, 0, 0, 655, 656, 657, 661, 663, 664, 665, 675, 658, 659, 660, 662, 666, 670, 671, 672, 669, 668, 667, 673, 674, 0, 0, 0, 164, 177, 228, 260, 278, 297, 524, 188, 200, 214, 243, 314, 396, 420, 444, 373, 353, 333, 470, 497, 0, 0, 0, 0, 178, 229, 261, 279, 298, 525, 189, 201, 215, 244, 315, 397, 421, 445, 374, 354, 334, 471, 498, 0, 0, 0, 0, 0, 230, 262, 280, 299, 526, 190, 202, 216, 245, 316, 398, 422, 446, 375, 355, 335, 472, 499, 0, 0, 0, 0, 0, 0, 266, 284, 303, 530, 231, 232, 233, 249, 320, 402, 426, 450, 379, 359, 339, 476, 503, 0, 0, 0, 0, 0, 0, 0, 286, 305, 532, 263, 264, 265, 267, 322, 404, 428, 452, 381, 361, 341, 478, 505, 0, 0, 0, 0, 0, 0, 0, 0, 306, 533, 281, 282, 283, 285, 323, 405, 429, 453, 382, 362, 342, 479, 506, 0, 0, 0, 0, 0, 0, 0, 0, 0, 534, 300, 301, 302, 304, 324, 406, 430, 454, 383, 363, 343, 480, 507, 0, 0, 0, 0, 0, 0, 0, 0, 0, 0, 527, 528, 529, 531, 535, 539, 540, 541, 538, 537, 536, 542, 543, 0, 0, 0, 0, 0, 0, 0, 0, 0, 0, 0, 203, 217, 246, 317, 399, 423, 447, 376, 356, 336, 473, 500, 0, 0, 0, 0, 0, 0, 0, 0, 0, 0, 0, 0, 218, 247, 318, 400, 424, 448, 377, 357, 337, 474, 501, 0, 0, 0, 0, 0, 0, 0, 0, 0, 0, 0, 0, 0, 248, 319, 401, 425, 449, 378, 358, 338, 475, 502, 0, 0, 0, 0, 0, 0, 0, 0, 0, 0, 0, 0, 0, 0, 321, 403, 427, 451, 380, 360, 340, 477, 504, 0, 0, 0, 0, 0, 0, 0, 0, 0, 0, 0, 0, 0, 0, 0, 407, 431, 455, 384, 364, 344, 481, 508, 0, 0, 0, 0, 0, 0, 0, 0, 0, 0, 0, 0, 0, 0, 0, 0, 435, 459, 410, 409, 408, 485, 512, 0, 0, 0, 0, 0, 0, 0, 0, 0, 0, 0, 0, 0, 0, 0, 0, 0, 460, 434, 433, 432, 486, 513, 0, 0, 0, 0, 0, 0, 0, 0, 0, 0, 0, 0, 0, 0, 0, 0, 0, 0, 458, 457, 456, 487, 514, 0, 0, 0, 0, 0, 0, 0, 0, 0, 0, 0, 0, 0, 0, 0, 0, 0, 0, 0, 386, 385, 484, 511, 0, 0, 0, 0, 0, 0, 0, 0, 0, 0, 0, 0, 0, 0, 0, 0, 0, 0, 0, 0, 365, 483, 510, 0, 0, 0, 0, 0, 0, 0, 0, 0, 0, 0, 0, 0, 0, 0, 0, 0, 0, 0, 0, 0, 482, 509, 0, 0, 0, 0, 0, 0, 0, 0, 0, 0, 0, 0, 0, 0, 0, 0, 0, 0, 0, 0, 0, 0, 515, 0, 0, 0, 0, 0, 0, 0, 0, 0, 0, 0, 0, 0, 0, 0, 0, 0, 0, 0, 0, 0, 0, 0]
theorem bk_g5 : ∀ i, i < 23 → ∀ j, j < bk_lns.getD i 0 → bk_nth 12 715 (bk_of.getD i 0 + j) narrow_1 = Cond.eq (.elem (.field (bk_tm i) "java/lang/String" "value" "[B") (.int (Int32.ofNat j))) (.int ((bk_byt.getD i []).getD j 0)) := by decide +kernel
theorem bk_g6 : ∀ i, i < 23 → ∀ j, j < 23 → i < j → bk_nth 12 715 (bk_op.getD (23 * i + j) 0) narrow_1 = Cond.not (Cond.eq (bk_tm i) (bk_tm j)) ∨ bk_nth 12 715 (bk_op.getD (23 * i + j) 0) narrow_1 = Cond.not (Cond.eq (bk_tm j) (bk_tm i)) := by decide +kernel
