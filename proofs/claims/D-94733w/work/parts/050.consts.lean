/-! written numbers -/
theorem ci_m8 : Int32.ofInt (-8) = (-8 : Int32) := by decide +kernel
theorem ci_m1 : Int32.ofInt (-1) = (-1 : Int32) := by decide +kernel
theorem ci_0 : Int32.ofInt (0) = (0 : Int32) := by decide +kernel
theorem ci_1 : Int32.ofInt (1) = (1 : Int32) := by decide +kernel
theorem ci_2 : Int32.ofInt (2) = (2 : Int32) := by decide +kernel
theorem ci_3 : Int32.ofInt (3) = (3 : Int32) := by decide +kernel
theorem ci_4 : Int32.ofInt (4) = (4 : Int32) := by decide +kernel
theorem ci_5 : Int32.ofInt (5) = (5 : Int32) := by decide +kernel
theorem cb_6 : (Int8.ofInt (6)).toInt32 = (6 : Int32) := by decide +kernel
theorem cb_7 : (Int8.ofInt (7)).toInt32 = (7 : Int32) := by decide +kernel
theorem cb_8 : (Int8.ofInt (8)).toInt32 = (8 : Int32) := by decide +kernel
theorem cb_9 : (Int8.ofInt (9)).toInt32 = (9 : Int32) := by decide +kernel
theorem cb_10 : (Int8.ofInt (10)).toInt32 = (10 : Int32) := by decide +kernel
theorem cb_11 : (Int8.ofInt (11)).toInt32 = (11 : Int32) := by decide +kernel
theorem cb_12 : (Int8.ofInt (12)).toInt32 = (12 : Int32) := by decide +kernel
theorem cb_16 : (Int8.ofInt (16)).toInt32 = (16 : Int32) := by decide +kernel
theorem cb_20 : (Int8.ofInt (20)).toInt32 = (20 : Int32) := by decide +kernel
theorem cb_21 : (Int8.ofInt (21)).toInt32 = (21 : Int32) := by decide +kernel
theorem cb_22 : (Int8.ofInt (22)).toInt32 = (22 : Int32) := by decide +kernel
theorem cb_24 : (Int8.ofInt (24)).toInt32 = (24 : Int32) := by decide +kernel
theorem cb_25 : (Int8.ofInt (25)).toInt32 = (25 : Int32) := by decide +kernel
theorem cb_26 : (Int8.ofInt (26)).toInt32 = (26 : Int32) := by decide +kernel
theorem cb_30 : (Int8.ofInt (30)).toInt32 = (30 : Int32) := by decide +kernel
theorem cb_32 : (Int8.ofInt (32)).toInt32 = (32 : Int32) := by decide +kernel
theorem cb_40 : (Int8.ofInt (40)).toInt32 = (40 : Int32) := by decide +kernel
theorem cb_48 : (Int8.ofInt (48)).toInt32 = (48 : Int32) := by decide +kernel
theorem cb_49 : (Int8.ofInt (49)).toInt32 = (49 : Int32) := by decide +kernel
theorem cb_57 : (Int8.ofInt (57)).toInt32 = (57 : Int32) := by decide +kernel
theorem cb_59 : (Int8.ofInt (59)).toInt32 = (59 : Int32) := by decide +kernel
theorem cb_60 : (Int8.ofInt (60)).toInt32 = (60 : Int32) := by decide +kernel
theorem cb_63 : (Int8.ofInt (63)).toInt32 = (63 : Int32) := by decide +kernel
theorem cb_64 : (Int8.ofInt (64)).toInt32 = (64 : Int32) := by decide +kernel
theorem cb_65 : (Int8.ofInt (65)).toInt32 = (65 : Int32) := by decide +kernel
theorem cb_72 : (Int8.ofInt (72)).toInt32 = (72 : Int32) := by decide +kernel
theorem cb_90 : (Int8.ofInt (90)).toInt32 = (90 : Int32) := by decide +kernel
theorem cb_96 : (Int8.ofInt (96)).toInt32 = (96 : Int32) := by decide +kernel
theorem cb_97 : (Int8.ofInt (97)).toInt32 = (97 : Int32) := by decide +kernel
theorem cb_106 : (Int8.ofInt (106)).toInt32 = (106 : Int32) := by decide +kernel
theorem cb_120 : (Int8.ofInt (120)).toInt32 = (120 : Int32) := by decide +kernel
theorem cb_122 : (Int8.ofInt (122)).toInt32 = (122 : Int32) := by decide +kernel
theorem cs_160 : (Int16.ofInt (160)).toInt32 = (160 : Int32) := by decide +kernel
theorem cs_240 : (Int16.ofInt (240)).toInt32 = (240 : Int32) := by decide +kernel
theorem cs_255 : (Int16.ofInt (255)).toInt32 = (255 : Int32) := by decide +kernel
theorem cs_300 : (Int16.ofInt (300)).toInt32 = (300 : Int32) := by decide +kernel
theorem cs_301 : (Int16.ofInt (301)).toInt32 = (301 : Int32) := by decide +kernel
theorem cs_600 : (Int16.ofInt (600)).toInt32 = (600 : Int32) := by decide +kernel
theorem cs_800 : (Int16.ofInt (800)).toInt32 = (800 : Int32) := by decide +kernel
theorem cs_900 : (Int16.ofInt (900)).toInt32 = (900 : Int32) := by decide +kernel
theorem cs_1250 : (Int16.ofInt (1250)).toInt32 = (1250 : Int32) := by decide +kernel
theorem cs_1300 : (Int16.ofInt (1300)).toInt32 = (1300 : Int32) := by decide +kernel
theorem cs_1400 : (Int16.ofInt (1400)).toInt32 = (1400 : Int32) := by decide +kernel
theorem cs_1850 : (Int16.ofInt (1850)).toInt32 = (1850 : Int32) := by decide +kernel
theorem cs_2000 : (Int16.ofInt (2000)).toInt32 = (2000 : Int32) := by decide +kernel
theorem cs_2010 : (Int16.ofInt (2010)).toInt32 = (2010 : Int32) := by decide +kernel
theorem cs_2040 : (Int16.ofInt (2040)).toInt32 = (2040 : Int32) := by decide +kernel
theorem cs_2600 : (Int16.ofInt (2600)).toInt32 = (2600 : Int32) := by decide +kernel
theorem cs_2801 : (Int16.ofInt (2801)).toInt32 = (2801 : Int32) := by decide +kernel
theorem cs_3300 : (Int16.ofInt (3300)).toInt32 = (3300 : Int32) := by decide +kernel
theorem cs_4161 : (Int16.ofInt (4161)).toInt32 = (4161 : Int32) := by decide +kernel
theorem cs_9999 : (Int16.ofInt (9999)).toInt32 = (9999 : Int32) := by decide +kernel
theorem cs_10163 : (Int16.ofInt (10163)).toInt32 = (10163 : Int32) := by decide +kernel
theorem cs_13200 : (Int16.ofInt (13200)).toInt32 = (13200 : Int32) := by decide +kernel
theorem cs_13204 : (Int16.ofInt (13204)).toInt32 = (13204 : Int32) := by decide +kernel
theorem cs_13205 : (Int16.ofInt (13205)).toInt32 = (13205 : Int32) := by decide +kernel
theorem cs_16500 : (Int16.ofInt (16500)).toInt32 = (16500 : Int32) := by decide +kernel
theorem cs_16507 : (Int16.ofInt (16507)).toInt32 = (16507 : Int32) := by decide +kernel
theorem cs_16508 : (Int16.ofInt (16508)).toInt32 = (16508 : Int32) := by decide +kernel
theorem cs_16509 : (Int16.ofInt (16509)).toInt32 = (16509 : Int32) := by decide +kernel
theorem cs_16510 : (Int16.ofInt (16510)).toInt32 = (16510 : Int32) := by decide +kernel
theorem cs_16511 : (Int16.ofInt (16511)).toInt32 = (16511 : Int32) := by decide +kernel
theorem cs_16800 : (Int16.ofInt (16800)).toInt32 = (16800 : Int32) := by decide +kernel
theorem cs_17100 : (Int16.ofInt (17100)).toInt32 = (17100 : Int32) := by decide +kernel
theorem cs_18350 : (Int16.ofInt (18350)).toInt32 = (18350 : Int32) := by decide +kernel
theorem cs_18510 : (Int16.ofInt (18510)).toInt32 = (18510 : Int32) := by decide +kernel
theorem cs_18540 : (Int16.ofInt (18540)).toInt32 = (18540 : Int32) := by decide +kernel
theorem cs_19800 : (Int16.ofInt (19800)).toInt32 = (19800 : Int32) := by decide +kernel
theorem kc_0 : (0 : Int32).toNatClampNeg = 0 := by decide +kernel
theorem kc_1 : (1 : Int32).toNatClampNeg = 1 := by decide +kernel
theorem kc_2 : (2 : Int32).toNatClampNeg = 2 := by decide +kernel
theorem kc_3 : (3 : Int32).toNatClampNeg = 3 := by decide +kernel
theorem kc_4 : (4 : Int32).toNatClampNeg = 4 := by decide +kernel
theorem kc_5 : (5 : Int32).toNatClampNeg = 5 := by decide +kernel
theorem kc_6 : (6 : Int32).toNatClampNeg = 6 := by decide +kernel
theorem kc_7 : (7 : Int32).toNatClampNeg = 7 := by decide +kernel
theorem kc_8 : (8 : Int32).toNatClampNeg = 8 := by decide +kernel
theorem kc_9 : (9 : Int32).toNatClampNeg = 9 := by decide +kernel
theorem kc_10 : (10 : Int32).toNatClampNeg = 10 := by decide +kernel
theorem kc_11 : (11 : Int32).toNatClampNeg = 11 := by decide +kernel
theorem kc_16507 : (16507 : Int32).toNatClampNeg = 16507 := by decide +kernel
theorem kc_16508 : (16508 : Int32).toNatClampNeg = 16508 := by decide +kernel
theorem kc_16509 : (16509 : Int32).toNatClampNeg = 16509 := by decide +kernel
theorem kc_16510 : (16510 : Int32).toNatClampNeg = 16510 := by decide +kernel
theorem kc_16511 : (16511 : Int32).toNatClampNeg = 16511 := by decide +kernel
theorem vi_1_0 : vp_in (0 : Int32) 19800 := by
  unfold vp_in
  decide +kernel
theorem vi_1_1 : vp_in (1 : Int32) 19800 := by
  unfold vp_in
  decide +kernel
theorem vi_1_2 : vp_in (2 : Int32) 19800 := by
  unfold vp_in
  decide +kernel
theorem vi_1_3 : vp_in (3 : Int32) 19800 := by
  unfold vp_in
  decide +kernel
theorem vi_1_4 : vp_in (4 : Int32) 19800 := by
  unfold vp_in
  decide +kernel
theorem vi_1_5 : vp_in (5 : Int32) 19800 := by
  unfold vp_in
  decide +kernel
theorem vi_1_6 : vp_in (6 : Int32) 19800 := by
  unfold vp_in
  decide +kernel
theorem vi_1_7 : vp_in (7 : Int32) 19800 := by
  unfold vp_in
  decide +kernel
theorem vi_1_8 : vp_in (8 : Int32) 19800 := by
  unfold vp_in
  decide +kernel
theorem vi_1_9 : vp_in (9 : Int32) 19800 := by
  unfold vp_in
  decide +kernel
theorem vi_1_10 : vp_in (10 : Int32) 19800 := by
  unfold vp_in
  decide +kernel
theorem vi_1_11 : vp_in (11 : Int32) 19800 := by
  unfold vp_in
  decide +kernel
theorem vi_1_16507 : vp_in (16507 : Int32) 19800 := by
  unfold vp_in
  decide +kernel
theorem vi_1_16508 : vp_in (16508 : Int32) 19800 := by
  unfold vp_in
  decide +kernel
theorem vi_1_16509 : vp_in (16509 : Int32) 19800 := by
  unfold vp_in
  decide +kernel
theorem vi_1_16510 : vp_in (16510 : Int32) 19800 := by
  unfold vp_in
  decide +kernel
theorem vi_1_16511 : vp_in (16511 : Int32) 19800 := by
  unfold vp_in
  decide +kernel
theorem vi_12_0 : vp_in (0 : Int32) 160 := by
  unfold vp_in
  decide +kernel
theorem vi_16_0 : vp_in (0 : Int32) 21 := by
  unfold vp_in
  decide +kernel
theorem vi_18_0 : vp_in (0 : Int32) 21 := by
  unfold vp_in
  decide +kernel
theorem vi_19_0 : vp_in (0 : Int32) 22 := by
  unfold vp_in
  decide +kernel
theorem vi_20_0 : vp_in (0 : Int32) 4161 := by
  unfold vp_in
  decide +kernel
