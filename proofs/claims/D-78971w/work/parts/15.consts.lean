/-! the constants that the methods push -/
theorem kBm10 : (Int8.ofInt (-10)).toInt32 = (-10) := by decide
theorem kBm100 : (Int8.ofInt (-100)).toInt32 = (-100) := by decide
theorem kBm128 : (Int8.ofInt (-128)).toInt32 = (-128) := by decide
theorem kBm9 : (Int8.ofInt (-9)).toInt32 = (-9) := by decide
theorem kB10 : (Int8.ofInt (10)).toInt32 = nI 10 := by decide
theorem kB100 : (Int8.ofInt (100)).toInt32 = nI 100 := by decide
theorem kB108 : (Int8.ofInt (108)).toInt32 = nI 108 := by decide
theorem kB11 : (Int8.ofInt (11)).toInt32 = nI 11 := by decide
theorem kB110 : (Int8.ofInt (110)).toInt32 = nI 110 := by decide
theorem kB117 : (Int8.ofInt (117)).toInt32 = nI 117 := by decide
theorem kB12 : (Int8.ofInt (12)).toInt32 = nI 12 := by decide
theorem kB126 : (Int8.ofInt (126)).toInt32 = nI 126 := by decide
theorem kB13 : (Int8.ofInt (13)).toInt32 = nI 13 := by decide
theorem kB16 : (Int8.ofInt (16)).toInt32 = nI 16 := by decide
theorem kB17 : (Int8.ofInt (17)).toInt32 = nI 17 := by decide
theorem kB20 : (Int8.ofInt (20)).toInt32 = nI 20 := by decide
theorem kB24 : (Int8.ofInt (24)).toInt32 = nI 24 := by decide
theorem kB30 : (Int8.ofInt (30)).toInt32 = nI 30 := by decide
theorem kB31 : (Int8.ofInt (31)).toInt32 = nI 31 := by decide
theorem kB32 : (Int8.ofInt (32)).toInt32 = nI 32 := by decide
theorem kB33 : (Int8.ofInt (33)).toInt32 = nI 33 := by decide
theorem kB40 : (Int8.ofInt (40)).toInt32 = nI 40 := by decide
theorem kB43 : (Int8.ofInt (43)).toInt32 = nI 43 := by decide
theorem kB45 : (Int8.ofInt (45)).toInt32 = nI 45 := by decide
theorem kB48 : (Int8.ofInt (48)).toInt32 = nI 48 := by decide
theorem kB50 : (Int8.ofInt (50)).toInt32 = nI 50 := by decide
theorem kB56 : (Int8.ofInt (56)).toInt32 = nI 56 := by decide
theorem kB57 : (Int8.ofInt (57)).toInt32 = nI 57 := by decide
theorem kB58 : (Int8.ofInt (58)).toInt32 = nI 58 := by decide
theorem kB59 : (Int8.ofInt (59)).toInt32 = nI 59 := by decide
theorem kB6 : (Int8.ofInt (6)).toInt32 = nI 6 := by decide
theorem kB60 : (Int8.ofInt (60)).toInt32 = nI 60 := by decide
theorem kB61 : (Int8.ofInt (61)).toInt32 = nI 61 := by decide
theorem kB64 : (Int8.ofInt (64)).toInt32 = nI 64 := by decide
theorem kB7 : (Int8.ofInt (7)).toInt32 = nI 7 := by decide
theorem kB8 : (Int8.ofInt (8)).toInt32 = nI 8 := by decide
theorem kB9 : (Int8.ofInt (9)).toInt32 = nI 9 := by decide
theorem kB90 : (Int8.ofInt (90)).toInt32 = nI 90 := by decide
theorem kB93 : (Int8.ofInt (93)).toInt32 = nI 93 := by decide
theorem kB96 : (Int8.ofInt (96)).toInt32 = nI 96 := by decide
theorem kB99 : (Int8.ofInt (99)).toInt32 = nI 99 := by decide
theorem kIm1 : Int32.ofInt (-1) = (-1) := by decide
theorem kI0 : Int32.ofInt (0) = nI 0 := by decide
theorem kI1 : Int32.ofInt (1) = nI 1 := by decide
theorem kI2 : Int32.ofInt (2) = nI 2 := by decide
theorem kI3 : Int32.ofInt (3) = nI 3 := by decide
theorem kI4 : Int32.ofInt (4) = nI 4 := by decide
theorem kI5 : Int32.ofInt (5) = nI 5 := by decide
theorem kS1020 : (Int16.ofInt (1020)).toInt32 = nI 1020 := by decide
theorem kS1224 : (Int16.ofInt (1224)).toInt32 = nI 1224 := by decide
theorem kS128 : (Int16.ofInt (128)).toInt32 = nI 128 := by decide
theorem kS141 : (Int16.ofInt (141)).toInt32 = nI 141 := by decide
theorem kS153 : (Int16.ofInt (153)).toInt32 = nI 153 := by decide
theorem kS180 : (Int16.ofInt (180)).toInt32 = nI 180 := by decide
theorem kS204 : (Int16.ofInt (204)).toInt32 = nI 204 := by decide
theorem kS255 : (Int16.ofInt (255)).toInt32 = nI 255 := by decide
theorem kS256 : (Int16.ofInt (256)).toInt32 = nI 256 := by decide
theorem kS900 : (Int16.ofInt (900)).toInt32 = nI 900 := by decide
theorem kS999 : (Int16.ofInt (999)).toInt32 = nI 999 := by decide
